/-! LaneCrowdsModel$State -/
set_option maxRecDepth 100000
def RX4 : String := "LaneCrowdsModel$State"
def TX4 : u_T := fun k => match k with
  | 0 => ("LaneCrowdsModel$State", "step", "I", false)
  | 1 => ("LaneCrowdsModel$State", "cells", "[I", true)
  | 2 => ("LaneCrowdsModel$State", "at", "[I", true)
  | 3 => ("LaneCrowdsModel$State", "people", "[I", true)
  | 4 => ("LaneCrowdsModel$State", "torch", "[I", true)
  | 5 => ("LaneCrowdsModel$State", "many", "[I", true)
  | 6 => ("LaneCrowdsModel$State", "orders", "[I", true)
  | 7 => ("LaneCrowdsModel$State", "missed", "[I", true)
  | 8 => ("LaneCrowdsModel$State", "post", "[I", true)
  | 9 => ("LaneCrowdsModel$State", "next", "[I", true)
  | _ => ("LaneCrowdsModel$State", "this$0", "LLaneCrowdsModel;", true)
def tyX4 : Nat → FieldType := fun k => match k with
  | 0 => .int
  | 1 => .array .int
  | 2 => .array .int
  | 3 => .array .int
  | 4 => .array .int
  | 5 => .array .int
  | 6 => .array .int
  | 7 => .array .int
  | 8 => .array .int
  | 9 => .array .int
  | _ => .object "LaneCrowdsModel"
abbrev wsX40 : List Cond := u_ws RX4 TX4 11
theorem nmX4 : ∀ a, a < 11 → ∀ b, b < 11 → a ≠ b → (TX4 a).2.1 ≠ (TX4 b).2.1 := by decide +kernel
theorem tyX4_ok : ∀ k, k < 11 → parseFieldDescriptor (TX4 k).2.2.1 = some (tyX4 k) := by decide +kernel
abbrev cX4_init : ByteArray := prog_7_method_1_code
def yX4_init : MethodName := ⟨RX4, "<init>", "(LLaneCrowdsModel;)V"⟩
def dkwX4_init_3 : List UInt8 := [181, 0, 37, 42, 6, 188, 10, 181, 0, 40, 177]
abbrev dktX4_init_3 : List UInt8 := dkwX4_init_3 ++ []
def dkwX4_init_2 : List UInt8 := [181, 0, 28, 42, 17, 0, 144, 188, 10, 181, 0, 31, 42, 16, 6, 188, 10, 181, 0, 34, 42, 6, 188, 10]
abbrev dktX4_init_2 : List UInt8 := dkwX4_init_2 ++ dktX4_init_3
def dkwX4_init_1 : List UInt8 := [181, 0, 19, 42, 16, 6, 188, 10, 181, 0, 22, 42, 16, 6, 188, 10, 181, 0, 25, 42, 16, 6, 188, 10]
abbrev dktX4_init_1 : List UInt8 := dkwX4_init_1 ++ dktX4_init_2
def dkwX4_init_0 : List UInt8 := [42, 43, 181, 0, 3, 42, 183, 0, 9, 42, 16, 108, 188, 10, 181, 0, 15, 42, 16, 6, 188, 10]
abbrev dktX4_init_0 : List UInt8 := dkwX4_init_0 ++ dktX4_init_1
theorem dksX4_init_0 : cX4_init.data.toList.drop 0 = dktX4_init_0 := by decide +kernel
theorem dksX4_init_1 : cX4_init.data.toList.drop 22 = dktX4_init_1 := dk_seg dksX4_init_0 22 rfl rfl
theorem dksX4_init_2 : cX4_init.data.toList.drop 46 = dktX4_init_2 := dk_seg dksX4_init_1 24 rfl rfl
theorem dksX4_init_3 : cX4_init.data.toList.drop 70 = dktX4_init_3 := dk_seg dksX4_init_2 24 rfl rfl
theorem dX4_init_0 : decode cX4_init 0 = .ok (.aload_n 0, 1) := dk_42 (dk_at dksX4_init_0 0 rfl rfl)
theorem dX4_init_1 : decode cX4_init 1 = .ok (.aload_n 1, 1) := dk_43 (dk_at dksX4_init_0 1 rfl rfl)
theorem dX4_init_2 : decode cX4_init 2 = .ok (.putfield 3, 3) := dk_181 0 3 (dk_at dksX4_init_0 2 rfl rfl)
theorem dX4_init_5 : decode cX4_init 5 = .ok (.aload_n 0, 1) := dk_42 (dk_at dksX4_init_0 5 rfl rfl)
theorem dX4_init_6 : decode cX4_init 6 = .ok (.invokespecial 9, 3) := dk_183 0 9 (dk_at dksX4_init_0 6 rfl rfl)
theorem dX4_init_9 : decode cX4_init 9 = .ok (.aload_n 0, 1) := dk_42 (dk_at dksX4_init_0 9 rfl rfl)
theorem dX4_init_10 : decode cX4_init 10 = .ok (.bipush 108, 2) := dk_16 108 (dk_at dksX4_init_0 10 rfl rfl)
theorem dX4_init_12 : decode cX4_init 12 = .ok (.newarray .int, 2) := dk_188_10 (dk_at dksX4_init_0 12 rfl rfl)
theorem dX4_init_14 : decode cX4_init 14 = .ok (.putfield 15, 3) := dk_181 0 15 (dk_at dksX4_init_0 14 rfl rfl)
theorem dX4_init_17 : decode cX4_init 17 = .ok (.aload_n 0, 1) := dk_42 (dk_at dksX4_init_0 17 rfl rfl)
theorem dX4_init_18 : decode cX4_init 18 = .ok (.bipush 6, 2) := dk_16 6 (dk_at dksX4_init_0 18 rfl rfl)
theorem dX4_init_20 : decode cX4_init 20 = .ok (.newarray .int, 2) := dk_188_10 (dk_at dksX4_init_0 20 rfl rfl)
theorem dX4_init_22 : decode cX4_init 22 = .ok (.putfield 19, 3) := dk_181 0 19 (dk_at dksX4_init_1 0 rfl rfl)
theorem dX4_init_25 : decode cX4_init 25 = .ok (.aload_n 0, 1) := dk_42 (dk_at dksX4_init_1 3 rfl rfl)
theorem dX4_init_26 : decode cX4_init 26 = .ok (.bipush 6, 2) := dk_16 6 (dk_at dksX4_init_1 4 rfl rfl)
theorem dX4_init_28 : decode cX4_init 28 = .ok (.newarray .int, 2) := dk_188_10 (dk_at dksX4_init_1 6 rfl rfl)
theorem dX4_init_30 : decode cX4_init 30 = .ok (.putfield 22, 3) := dk_181 0 22 (dk_at dksX4_init_1 8 rfl rfl)
theorem dX4_init_33 : decode cX4_init 33 = .ok (.aload_n 0, 1) := dk_42 (dk_at dksX4_init_1 11 rfl rfl)
theorem dX4_init_34 : decode cX4_init 34 = .ok (.bipush 6, 2) := dk_16 6 (dk_at dksX4_init_1 12 rfl rfl)
theorem dX4_init_36 : decode cX4_init 36 = .ok (.newarray .int, 2) := dk_188_10 (dk_at dksX4_init_1 14 rfl rfl)
theorem dX4_init_38 : decode cX4_init 38 = .ok (.putfield 25, 3) := dk_181 0 25 (dk_at dksX4_init_1 16 rfl rfl)
theorem dX4_init_41 : decode cX4_init 41 = .ok (.aload_n 0, 1) := dk_42 (dk_at dksX4_init_1 19 rfl rfl)
theorem dX4_init_42 : decode cX4_init 42 = .ok (.bipush 6, 2) := dk_16 6 (dk_at dksX4_init_1 20 rfl rfl)
theorem dX4_init_44 : decode cX4_init 44 = .ok (.newarray .int, 2) := dk_188_10 (dk_at dksX4_init_1 22 rfl rfl)
theorem dX4_init_46 : decode cX4_init 46 = .ok (.putfield 28, 3) := dk_181 0 28 (dk_at dksX4_init_2 0 rfl rfl)
theorem dX4_init_49 : decode cX4_init 49 = .ok (.aload_n 0, 1) := dk_42 (dk_at dksX4_init_2 3 rfl rfl)
theorem dX4_init_50 : decode cX4_init 50 = .ok (.sipush 144, 3) := dk_17 0 144 (dk_at dksX4_init_2 4 rfl rfl)
theorem dX4_init_53 : decode cX4_init 53 = .ok (.newarray .int, 2) := dk_188_10 (dk_at dksX4_init_2 7 rfl rfl)
theorem dX4_init_55 : decode cX4_init 55 = .ok (.putfield 31, 3) := dk_181 0 31 (dk_at dksX4_init_2 9 rfl rfl)
theorem dX4_init_58 : decode cX4_init 58 = .ok (.aload_n 0, 1) := dk_42 (dk_at dksX4_init_2 12 rfl rfl)
theorem dX4_init_59 : decode cX4_init 59 = .ok (.bipush 6, 2) := dk_16 6 (dk_at dksX4_init_2 13 rfl rfl)
theorem dX4_init_61 : decode cX4_init 61 = .ok (.newarray .int, 2) := dk_188_10 (dk_at dksX4_init_2 15 rfl rfl)
theorem dX4_init_63 : decode cX4_init 63 = .ok (.putfield 34, 3) := dk_181 0 34 (dk_at dksX4_init_2 17 rfl rfl)
theorem dX4_init_66 : decode cX4_init 66 = .ok (.aload_n 0, 1) := dk_42 (dk_at dksX4_init_2 20 rfl rfl)
theorem dX4_init_67 : decode cX4_init 67 = .ok (.iconst 3, 1) := dk_6 (dk_at dksX4_init_2 21 rfl rfl)
theorem dX4_init_68 : decode cX4_init 68 = .ok (.newarray .int, 2) := dk_188_10 (dk_at dksX4_init_2 22 rfl rfl)
theorem dX4_init_70 : decode cX4_init 70 = .ok (.putfield 37, 3) := dk_181 0 37 (dk_at dksX4_init_3 0 rfl rfl)
theorem dX4_init_73 : decode cX4_init 73 = .ok (.aload_n 0, 1) := dk_42 (dk_at dksX4_init_3 3 rfl rfl)
theorem dX4_init_74 : decode cX4_init 74 = .ok (.iconst 3, 1) := dk_6 (dk_at dksX4_init_3 4 rfl rfl)
theorem dX4_init_75 : decode cX4_init 75 = .ok (.newarray .int, 2) := dk_188_10 (dk_at dksX4_init_3 5 rfl rfl)
theorem dX4_init_77 : decode cX4_init 77 = .ok (.putfield 40, 3) := dk_181 0 40 (dk_at dksX4_init_3 7 rfl rfl)
theorem dX4_init_80 : decode cX4_init 80 = .ok (.return_, 1) := dk_177 (dk_at dksX4_init_3 10 rfl rfl)
abbrev cX4_isBusy : ByteArray := prog_7_method_4_code
def yX4_isBusy : MethodName := ⟨RX4, "isBusy", "(I)Z"⟩
def dkwX4_isBusy_3 : List UInt8 := [3, 172]
abbrev dktX4_isBusy_3 : List UInt8 := dkwX4_isBusy_3 ++ []
def dkwX4_isBusy_2 : List UInt8 := [180, 0, 60, 162, 0, 21, 42, 180, 0, 37, 28, 46, 27, 160, 0, 5, 4, 172, 132, 2, 1, 167, 255, 230]
abbrev dktX4_isBusy_2 : List UInt8 := dkwX4_isBusy_2 ++ dktX4_isBusy_3
def dkwX4_isBusy_1 : List UInt8 := [180, 0, 19, 28, 46, 27, 160, 0, 5, 4, 172, 132, 2, 1, 167, 255, 221, 3, 61, 28, 42, 180, 0, 3]
abbrev dktX4_isBusy_1 : List UInt8 := dkwX4_isBusy_1 ++ dktX4_isBusy_2
def dkwX4_isBusy_0 : List UInt8 := [3, 61, 28, 42, 180, 0, 3, 180, 0, 57, 162, 0, 30, 42, 180, 0, 22, 28, 46, 158, 0, 15, 42]
abbrev dktX4_isBusy_0 : List UInt8 := dkwX4_isBusy_0 ++ dktX4_isBusy_1
theorem dksX4_isBusy_0 : cX4_isBusy.data.toList.drop 0 = dktX4_isBusy_0 := by decide +kernel
theorem dksX4_isBusy_1 : cX4_isBusy.data.toList.drop 23 = dktX4_isBusy_1 := dk_seg dksX4_isBusy_0 23 rfl rfl
theorem dksX4_isBusy_2 : cX4_isBusy.data.toList.drop 47 = dktX4_isBusy_2 := dk_seg dksX4_isBusy_1 24 rfl rfl
theorem dksX4_isBusy_3 : cX4_isBusy.data.toList.drop 71 = dktX4_isBusy_3 := dk_seg dksX4_isBusy_2 24 rfl rfl
theorem dX4_isBusy_0 : decode cX4_isBusy 0 = .ok (.iconst 0, 1) := dk_3 (dk_at dksX4_isBusy_0 0 rfl rfl)
theorem dX4_isBusy_1 : decode cX4_isBusy 1 = .ok (.istore_n 2, 1) := dk_61 (dk_at dksX4_isBusy_0 1 rfl rfl)
theorem dX4_isBusy_2 : decode cX4_isBusy 2 = .ok (.iload_n 2, 1) := dk_28 (dk_at dksX4_isBusy_0 2 rfl rfl)
theorem dX4_isBusy_3 : decode cX4_isBusy 3 = .ok (.aload_n 0, 1) := dk_42 (dk_at dksX4_isBusy_0 3 rfl rfl)
theorem dX4_isBusy_4 : decode cX4_isBusy 4 = .ok (.getfield 3, 3) := dk_180 0 3 (dk_at dksX4_isBusy_0 4 rfl rfl)
theorem dX4_isBusy_7 : decode cX4_isBusy 7 = .ok (.getfield 57, 3) := dk_180 0 57 (dk_at dksX4_isBusy_0 7 rfl rfl)
theorem dX4_isBusy_10 : decode cX4_isBusy 10 = .ok (.if_icmp .ge 30, 3) := dk_162 0 30 (dk_at dksX4_isBusy_0 10 rfl rfl)
theorem dX4_isBusy_13 : decode cX4_isBusy 13 = .ok (.aload_n 0, 1) := dk_42 (dk_at dksX4_isBusy_0 13 rfl rfl)
theorem dX4_isBusy_14 : decode cX4_isBusy 14 = .ok (.getfield 22, 3) := dk_180 0 22 (dk_at dksX4_isBusy_0 14 rfl rfl)
theorem dX4_isBusy_17 : decode cX4_isBusy 17 = .ok (.iload_n 2, 1) := dk_28 (dk_at dksX4_isBusy_0 17 rfl rfl)
theorem dX4_isBusy_18 : decode cX4_isBusy 18 = .ok (.iaload, 1) := dk_46 (dk_at dksX4_isBusy_0 18 rfl rfl)
theorem dX4_isBusy_19 : decode cX4_isBusy 19 = .ok (.ifCond .le 15, 3) := dk_158 0 15 (dk_at dksX4_isBusy_0 19 rfl rfl)
theorem dX4_isBusy_22 : decode cX4_isBusy 22 = .ok (.aload_n 0, 1) := dk_42 (dk_at dksX4_isBusy_0 22 rfl rfl)
theorem dX4_isBusy_23 : decode cX4_isBusy 23 = .ok (.getfield 19, 3) := dk_180 0 19 (dk_at dksX4_isBusy_1 0 rfl rfl)
theorem dX4_isBusy_26 : decode cX4_isBusy 26 = .ok (.iload_n 2, 1) := dk_28 (dk_at dksX4_isBusy_1 3 rfl rfl)
theorem dX4_isBusy_27 : decode cX4_isBusy 27 = .ok (.iaload, 1) := dk_46 (dk_at dksX4_isBusy_1 4 rfl rfl)
theorem dX4_isBusy_28 : decode cX4_isBusy 28 = .ok (.iload_n 1, 1) := dk_27 (dk_at dksX4_isBusy_1 5 rfl rfl)
theorem dX4_isBusy_29 : decode cX4_isBusy 29 = .ok (.if_icmp .ne 5, 3) := dk_160 0 5 (dk_at dksX4_isBusy_1 6 rfl rfl)
theorem dX4_isBusy_32 : decode cX4_isBusy 32 = .ok (.iconst 1, 1) := dk_4 (dk_at dksX4_isBusy_1 9 rfl rfl)
theorem dX4_isBusy_33 : decode cX4_isBusy 33 = .ok (.ireturn, 1) := dk_172 (dk_at dksX4_isBusy_1 10 rfl rfl)
theorem dX4_isBusy_34 : decode cX4_isBusy 34 = .ok (.iinc 2 1, 3) := dk_132 2 1 (dk_at dksX4_isBusy_1 11 rfl rfl)
theorem dX4_isBusy_37 : decode cX4_isBusy 37 = .ok (.goto (-35), 3) := dk_167 255 221 (dk_at dksX4_isBusy_1 14 rfl rfl)
theorem dX4_isBusy_40 : decode cX4_isBusy 40 = .ok (.iconst 0, 1) := dk_3 (dk_at dksX4_isBusy_1 17 rfl rfl)
theorem dX4_isBusy_41 : decode cX4_isBusy 41 = .ok (.istore_n 2, 1) := dk_61 (dk_at dksX4_isBusy_1 18 rfl rfl)
theorem dX4_isBusy_42 : decode cX4_isBusy 42 = .ok (.iload_n 2, 1) := dk_28 (dk_at dksX4_isBusy_1 19 rfl rfl)
theorem dX4_isBusy_43 : decode cX4_isBusy 43 = .ok (.aload_n 0, 1) := dk_42 (dk_at dksX4_isBusy_1 20 rfl rfl)
theorem dX4_isBusy_44 : decode cX4_isBusy 44 = .ok (.getfield 3, 3) := dk_180 0 3 (dk_at dksX4_isBusy_1 21 rfl rfl)
theorem dX4_isBusy_47 : decode cX4_isBusy 47 = .ok (.getfield 60, 3) := dk_180 0 60 (dk_at dksX4_isBusy_2 0 rfl rfl)
theorem dX4_isBusy_50 : decode cX4_isBusy 50 = .ok (.if_icmp .ge 21, 3) := dk_162 0 21 (dk_at dksX4_isBusy_2 3 rfl rfl)
theorem dX4_isBusy_53 : decode cX4_isBusy 53 = .ok (.aload_n 0, 1) := dk_42 (dk_at dksX4_isBusy_2 6 rfl rfl)
theorem dX4_isBusy_54 : decode cX4_isBusy 54 = .ok (.getfield 37, 3) := dk_180 0 37 (dk_at dksX4_isBusy_2 7 rfl rfl)
theorem dX4_isBusy_57 : decode cX4_isBusy 57 = .ok (.iload_n 2, 1) := dk_28 (dk_at dksX4_isBusy_2 10 rfl rfl)
theorem dX4_isBusy_58 : decode cX4_isBusy 58 = .ok (.iaload, 1) := dk_46 (dk_at dksX4_isBusy_2 11 rfl rfl)
theorem dX4_isBusy_59 : decode cX4_isBusy 59 = .ok (.iload_n 1, 1) := dk_27 (dk_at dksX4_isBusy_2 12 rfl rfl)
theorem dX4_isBusy_60 : decode cX4_isBusy 60 = .ok (.if_icmp .ne 5, 3) := dk_160 0 5 (dk_at dksX4_isBusy_2 13 rfl rfl)
theorem dX4_isBusy_63 : decode cX4_isBusy 63 = .ok (.iconst 1, 1) := dk_4 (dk_at dksX4_isBusy_2 16 rfl rfl)
theorem dX4_isBusy_64 : decode cX4_isBusy 64 = .ok (.ireturn, 1) := dk_172 (dk_at dksX4_isBusy_2 17 rfl rfl)
theorem dX4_isBusy_65 : decode cX4_isBusy 65 = .ok (.iinc 2 1, 3) := dk_132 2 1 (dk_at dksX4_isBusy_2 18 rfl rfl)
theorem dX4_isBusy_68 : decode cX4_isBusy 68 = .ok (.goto (-26), 3) := dk_167 255 230 (dk_at dksX4_isBusy_2 21 rfl rfl)
theorem dX4_isBusy_71 : decode cX4_isBusy 71 = .ok (.iconst 0, 1) := dk_3 (dk_at dksX4_isBusy_3 0 rfl rfl)
theorem dX4_isBusy_72 : decode cX4_isBusy 72 = .ok (.ireturn, 1) := dk_172 (dk_at dksX4_isBusy_3 1 rfl rfl)
abbrev cX4_seenBy : ByteArray := prog_7_method_13_code
def yX4_seenBy : MethodName := ⟨RX4, "seenBy", "(I)I"⟩
def dkwX4_seenBy_1 : List UInt8 := [153, 0, 7, 4, 167, 0, 4, 3, 96, 61, 132, 3, 1, 167, 255, 225, 28, 172]
abbrev dktX4_seenBy_1 : List UInt8 := dkwX4_seenBy_1 ++ []
def dkwX4_seenBy_0 : List UInt8 := [3, 61, 3, 62, 29, 42, 180, 0, 3, 180, 0, 60, 162, 0, 26, 28, 42, 29, 27, 182, 0, 105]
abbrev dktX4_seenBy_0 : List UInt8 := dkwX4_seenBy_0 ++ dktX4_seenBy_1
theorem dksX4_seenBy_0 : cX4_seenBy.data.toList.drop 0 = dktX4_seenBy_0 := by decide +kernel
theorem dksX4_seenBy_1 : cX4_seenBy.data.toList.drop 22 = dktX4_seenBy_1 := dk_seg dksX4_seenBy_0 22 rfl rfl
theorem dX4_seenBy_0 : decode cX4_seenBy 0 = .ok (.iconst 0, 1) := dk_3 (dk_at dksX4_seenBy_0 0 rfl rfl)
theorem dX4_seenBy_1 : decode cX4_seenBy 1 = .ok (.istore_n 2, 1) := dk_61 (dk_at dksX4_seenBy_0 1 rfl rfl)
theorem dX4_seenBy_2 : decode cX4_seenBy 2 = .ok (.iconst 0, 1) := dk_3 (dk_at dksX4_seenBy_0 2 rfl rfl)
theorem dX4_seenBy_3 : decode cX4_seenBy 3 = .ok (.istore_n 3, 1) := dk_62 (dk_at dksX4_seenBy_0 3 rfl rfl)
theorem dX4_seenBy_4 : decode cX4_seenBy 4 = .ok (.iload_n 3, 1) := dk_29 (dk_at dksX4_seenBy_0 4 rfl rfl)
theorem dX4_seenBy_5 : decode cX4_seenBy 5 = .ok (.aload_n 0, 1) := dk_42 (dk_at dksX4_seenBy_0 5 rfl rfl)
theorem dX4_seenBy_6 : decode cX4_seenBy 6 = .ok (.getfield 3, 3) := dk_180 0 3 (dk_at dksX4_seenBy_0 6 rfl rfl)
theorem dX4_seenBy_9 : decode cX4_seenBy 9 = .ok (.getfield 60, 3) := dk_180 0 60 (dk_at dksX4_seenBy_0 9 rfl rfl)
theorem dX4_seenBy_12 : decode cX4_seenBy 12 = .ok (.if_icmp .ge 26, 3) := dk_162 0 26 (dk_at dksX4_seenBy_0 12 rfl rfl)
theorem dX4_seenBy_15 : decode cX4_seenBy 15 = .ok (.iload_n 2, 1) := dk_28 (dk_at dksX4_seenBy_0 15 rfl rfl)
theorem dX4_seenBy_16 : decode cX4_seenBy 16 = .ok (.aload_n 0, 1) := dk_42 (dk_at dksX4_seenBy_0 16 rfl rfl)
theorem dX4_seenBy_17 : decode cX4_seenBy 17 = .ok (.iload_n 3, 1) := dk_29 (dk_at dksX4_seenBy_0 17 rfl rfl)
theorem dX4_seenBy_18 : decode cX4_seenBy 18 = .ok (.iload_n 1, 1) := dk_27 (dk_at dksX4_seenBy_0 18 rfl rfl)
theorem dX4_seenBy_19 : decode cX4_seenBy 19 = .ok (.invokevirtual 105, 3) := dk_182 0 105 (dk_at dksX4_seenBy_0 19 rfl rfl)
theorem dX4_seenBy_22 : decode cX4_seenBy 22 = .ok (.ifCond .eq 7, 3) := dk_153 0 7 (dk_at dksX4_seenBy_1 0 rfl rfl)
theorem dX4_seenBy_25 : decode cX4_seenBy 25 = .ok (.iconst 1, 1) := dk_4 (dk_at dksX4_seenBy_1 3 rfl rfl)
theorem dX4_seenBy_26 : decode cX4_seenBy 26 = .ok (.goto 4, 3) := dk_167 0 4 (dk_at dksX4_seenBy_1 4 rfl rfl)
theorem dX4_seenBy_29 : decode cX4_seenBy 29 = .ok (.iconst 0, 1) := dk_3 (dk_at dksX4_seenBy_1 7 rfl rfl)
theorem dX4_seenBy_30 : decode cX4_seenBy 30 = .ok (.iadd, 1) := dk_96 (dk_at dksX4_seenBy_1 8 rfl rfl)
theorem dX4_seenBy_31 : decode cX4_seenBy 31 = .ok (.istore_n 2, 1) := dk_61 (dk_at dksX4_seenBy_1 9 rfl rfl)
theorem dX4_seenBy_32 : decode cX4_seenBy 32 = .ok (.iinc 3 1, 3) := dk_132 3 1 (dk_at dksX4_seenBy_1 10 rfl rfl)
theorem dX4_seenBy_35 : decode cX4_seenBy 35 = .ok (.goto (-31), 3) := dk_167 255 225 (dk_at dksX4_seenBy_1 13 rfl rfl)
theorem dX4_seenBy_38 : decode cX4_seenBy 38 = .ok (.iload_n 2, 1) := dk_28 (dk_at dksX4_seenBy_1 16 rfl rfl)
theorem dX4_seenBy_39 : decode cX4_seenBy 39 = .ok (.ireturn, 1) := dk_172 (dk_at dksX4_seenBy_1 17 rfl rfl)
abbrev cX4_sees : ByteArray := prog_7_method_12_code
def yX4_sees : MethodName := ⟨RX4, "sees", "(II)Z"⟩
def dkwX4_sees_6 : List UInt8 := [172, 132, 7, 1, 167, 255, 224, 4, 172]
abbrev dktX4_sees_6 : List UInt8 := dkwX4_sees_6 ++ []
def dkwX4_sees_5 : List UInt8 := [162, 0, 31, 42, 180, 0, 15, 42, 180, 0, 37, 27, 46, 21, 7, 21, 6, 104, 96, 46, 153, 0, 5, 3]
abbrev dktX4_sees_5 : List UInt8 := dkwX4_sees_5 ++ dktX4_sees_6
def dkwX4_sees_4 : List UInt8 := [172, 29, 184, 0, 100, 16, 12, 21, 4, 184, 0, 100, 104, 96, 54, 6, 4, 54, 7, 21, 7, 21, 5]
abbrev dktX4_sees_4 : List UInt8 := dkwX4_sees_4 ++ dktX4_sees_5
def dkwX4_sees_3 : List UInt8 := [154, 0, 23, 21, 5, 42, 180, 0, 25, 28, 46, 4, 160, 0, 7, 7, 167, 0, 4, 4, 164, 0, 5, 3]
abbrev dktX4_sees_3 : List UInt8 := dkwX4_sees_3 ++ dktX4_sees_4
def dkwX4_sees_2 : List UInt8 := [108, 100, 54, 4, 29, 184, 0, 94, 21, 4, 184, 0, 94, 96, 54, 5, 29, 153, 0, 8, 21, 4]
abbrev dktX4_sees_2 : List UInt8 := dkwX4_sees_2 ++ dktX4_sees_3
def dkwX4_sees_1 : List UInt8 := [27, 46, 16, 12, 112, 100, 62, 42, 180, 0, 19, 28, 46, 16, 12, 108, 42, 180, 0, 37, 27, 46, 16, 12]
abbrev dktX4_sees_1 : List UInt8 := dkwX4_sees_1 ++ dktX4_sees_2
def dkwX4_sees_0 : List UInt8 := [42, 180, 0, 22, 28, 46, 154, 0, 5, 3, 172, 42, 180, 0, 19, 28, 46, 16, 12, 112, 42, 180, 0, 37]
abbrev dktX4_sees_0 : List UInt8 := dkwX4_sees_0 ++ dktX4_sees_1
theorem dksX4_sees_0 : cX4_sees.data.toList.drop 0 = dktX4_sees_0 := by decide +kernel
theorem dksX4_sees_1 : cX4_sees.data.toList.drop 24 = dktX4_sees_1 := dk_seg dksX4_sees_0 24 rfl rfl
theorem dksX4_sees_2 : cX4_sees.data.toList.drop 48 = dktX4_sees_2 := dk_seg dksX4_sees_1 24 rfl rfl
theorem dksX4_sees_3 : cX4_sees.data.toList.drop 70 = dktX4_sees_3 := dk_seg dksX4_sees_2 22 rfl rfl
theorem dksX4_sees_4 : cX4_sees.data.toList.drop 94 = dktX4_sees_4 := dk_seg dksX4_sees_3 24 rfl rfl
theorem dksX4_sees_5 : cX4_sees.data.toList.drop 117 = dktX4_sees_5 := dk_seg dksX4_sees_4 23 rfl rfl
theorem dksX4_sees_6 : cX4_sees.data.toList.drop 141 = dktX4_sees_6 := dk_seg dksX4_sees_5 24 rfl rfl
theorem dX4_sees_0 : decode cX4_sees 0 = .ok (.aload_n 0, 1) := dk_42 (dk_at dksX4_sees_0 0 rfl rfl)
theorem dX4_sees_1 : decode cX4_sees 1 = .ok (.getfield 22, 3) := dk_180 0 22 (dk_at dksX4_sees_0 1 rfl rfl)
theorem dX4_sees_4 : decode cX4_sees 4 = .ok (.iload_n 2, 1) := dk_28 (dk_at dksX4_sees_0 4 rfl rfl)
theorem dX4_sees_5 : decode cX4_sees 5 = .ok (.iaload, 1) := dk_46 (dk_at dksX4_sees_0 5 rfl rfl)
theorem dX4_sees_6 : decode cX4_sees 6 = .ok (.ifCond .ne 5, 3) := dk_154 0 5 (dk_at dksX4_sees_0 6 rfl rfl)
theorem dX4_sees_9 : decode cX4_sees 9 = .ok (.iconst 0, 1) := dk_3 (dk_at dksX4_sees_0 9 rfl rfl)
theorem dX4_sees_10 : decode cX4_sees 10 = .ok (.ireturn, 1) := dk_172 (dk_at dksX4_sees_0 10 rfl rfl)
theorem dX4_sees_11 : decode cX4_sees 11 = .ok (.aload_n 0, 1) := dk_42 (dk_at dksX4_sees_0 11 rfl rfl)
theorem dX4_sees_12 : decode cX4_sees 12 = .ok (.getfield 19, 3) := dk_180 0 19 (dk_at dksX4_sees_0 12 rfl rfl)
theorem dX4_sees_15 : decode cX4_sees 15 = .ok (.iload_n 2, 1) := dk_28 (dk_at dksX4_sees_0 15 rfl rfl)
theorem dX4_sees_16 : decode cX4_sees 16 = .ok (.iaload, 1) := dk_46 (dk_at dksX4_sees_0 16 rfl rfl)
theorem dX4_sees_17 : decode cX4_sees 17 = .ok (.bipush 12, 2) := dk_16 12 (dk_at dksX4_sees_0 17 rfl rfl)
theorem dX4_sees_19 : decode cX4_sees 19 = .ok (.irem, 1) := dk_112 (dk_at dksX4_sees_0 19 rfl rfl)
theorem dX4_sees_20 : decode cX4_sees 20 = .ok (.aload_n 0, 1) := dk_42 (dk_at dksX4_sees_0 20 rfl rfl)
theorem dX4_sees_21 : decode cX4_sees 21 = .ok (.getfield 37, 3) := dk_180 0 37 (dk_at dksX4_sees_0 21 rfl rfl)
theorem dX4_sees_24 : decode cX4_sees 24 = .ok (.iload_n 1, 1) := dk_27 (dk_at dksX4_sees_1 0 rfl rfl)
theorem dX4_sees_25 : decode cX4_sees 25 = .ok (.iaload, 1) := dk_46 (dk_at dksX4_sees_1 1 rfl rfl)
theorem dX4_sees_26 : decode cX4_sees 26 = .ok (.bipush 12, 2) := dk_16 12 (dk_at dksX4_sees_1 2 rfl rfl)
theorem dX4_sees_28 : decode cX4_sees 28 = .ok (.irem, 1) := dk_112 (dk_at dksX4_sees_1 4 rfl rfl)
theorem dX4_sees_29 : decode cX4_sees 29 = .ok (.isub, 1) := dk_100 (dk_at dksX4_sees_1 5 rfl rfl)
theorem dX4_sees_30 : decode cX4_sees 30 = .ok (.istore_n 3, 1) := dk_62 (dk_at dksX4_sees_1 6 rfl rfl)
theorem dX4_sees_31 : decode cX4_sees 31 = .ok (.aload_n 0, 1) := dk_42 (dk_at dksX4_sees_1 7 rfl rfl)
theorem dX4_sees_32 : decode cX4_sees 32 = .ok (.getfield 19, 3) := dk_180 0 19 (dk_at dksX4_sees_1 8 rfl rfl)
theorem dX4_sees_35 : decode cX4_sees 35 = .ok (.iload_n 2, 1) := dk_28 (dk_at dksX4_sees_1 11 rfl rfl)
theorem dX4_sees_36 : decode cX4_sees 36 = .ok (.iaload, 1) := dk_46 (dk_at dksX4_sees_1 12 rfl rfl)
theorem dX4_sees_37 : decode cX4_sees 37 = .ok (.bipush 12, 2) := dk_16 12 (dk_at dksX4_sees_1 13 rfl rfl)
theorem dX4_sees_39 : decode cX4_sees 39 = .ok (.idiv, 1) := dk_108 (dk_at dksX4_sees_1 15 rfl rfl)
theorem dX4_sees_40 : decode cX4_sees 40 = .ok (.aload_n 0, 1) := dk_42 (dk_at dksX4_sees_1 16 rfl rfl)
theorem dX4_sees_41 : decode cX4_sees 41 = .ok (.getfield 37, 3) := dk_180 0 37 (dk_at dksX4_sees_1 17 rfl rfl)
theorem dX4_sees_44 : decode cX4_sees 44 = .ok (.iload_n 1, 1) := dk_27 (dk_at dksX4_sees_1 20 rfl rfl)
theorem dX4_sees_45 : decode cX4_sees 45 = .ok (.iaload, 1) := dk_46 (dk_at dksX4_sees_1 21 rfl rfl)
theorem dX4_sees_46 : decode cX4_sees 46 = .ok (.bipush 12, 2) := dk_16 12 (dk_at dksX4_sees_1 22 rfl rfl)
theorem dX4_sees_48 : decode cX4_sees 48 = .ok (.idiv, 1) := dk_108 (dk_at dksX4_sees_2 0 rfl rfl)
theorem dX4_sees_49 : decode cX4_sees 49 = .ok (.isub, 1) := dk_100 (dk_at dksX4_sees_2 1 rfl rfl)
theorem dX4_sees_50 : decode cX4_sees 50 = .ok (.istore 4, 2) := dk_54 4 (dk_at dksX4_sees_2 2 rfl rfl)
theorem dX4_sees_52 : decode cX4_sees 52 = .ok (.iload_n 3, 1) := dk_29 (dk_at dksX4_sees_2 4 rfl rfl)
theorem dX4_sees_53 : decode cX4_sees 53 = .ok (.invokestatic 94, 3) := dk_184 0 94 (dk_at dksX4_sees_2 5 rfl rfl)
theorem dX4_sees_56 : decode cX4_sees 56 = .ok (.iload 4, 2) := dk_21 4 (dk_at dksX4_sees_2 8 rfl rfl)
theorem dX4_sees_58 : decode cX4_sees 58 = .ok (.invokestatic 94, 3) := dk_184 0 94 (dk_at dksX4_sees_2 10 rfl rfl)
theorem dX4_sees_61 : decode cX4_sees 61 = .ok (.iadd, 1) := dk_96 (dk_at dksX4_sees_2 13 rfl rfl)
theorem dX4_sees_62 : decode cX4_sees 62 = .ok (.istore 5, 2) := dk_54 5 (dk_at dksX4_sees_2 14 rfl rfl)
theorem dX4_sees_64 : decode cX4_sees 64 = .ok (.iload_n 3, 1) := dk_29 (dk_at dksX4_sees_2 16 rfl rfl)
theorem dX4_sees_65 : decode cX4_sees 65 = .ok (.ifCond .eq 8, 3) := dk_153 0 8 (dk_at dksX4_sees_2 17 rfl rfl)
theorem dX4_sees_68 : decode cX4_sees 68 = .ok (.iload 4, 2) := dk_21 4 (dk_at dksX4_sees_2 20 rfl rfl)
theorem dX4_sees_70 : decode cX4_sees 70 = .ok (.ifCond .ne 23, 3) := dk_154 0 23 (dk_at dksX4_sees_3 0 rfl rfl)
theorem dX4_sees_73 : decode cX4_sees 73 = .ok (.iload 5, 2) := dk_21 5 (dk_at dksX4_sees_3 3 rfl rfl)
theorem dX4_sees_75 : decode cX4_sees 75 = .ok (.aload_n 0, 1) := dk_42 (dk_at dksX4_sees_3 5 rfl rfl)
theorem dX4_sees_76 : decode cX4_sees 76 = .ok (.getfield 25, 3) := dk_180 0 25 (dk_at dksX4_sees_3 6 rfl rfl)
theorem dX4_sees_79 : decode cX4_sees 79 = .ok (.iload_n 2, 1) := dk_28 (dk_at dksX4_sees_3 9 rfl rfl)
theorem dX4_sees_80 : decode cX4_sees 80 = .ok (.iaload, 1) := dk_46 (dk_at dksX4_sees_3 10 rfl rfl)
theorem dX4_sees_81 : decode cX4_sees 81 = .ok (.iconst 1, 1) := dk_4 (dk_at dksX4_sees_3 11 rfl rfl)
theorem dX4_sees_82 : decode cX4_sees 82 = .ok (.if_icmp .ne 7, 3) := dk_160 0 7 (dk_at dksX4_sees_3 12 rfl rfl)
theorem dX4_sees_85 : decode cX4_sees 85 = .ok (.iconst 4, 1) := dk_7 (dk_at dksX4_sees_3 15 rfl rfl)
theorem dX4_sees_86 : decode cX4_sees 86 = .ok (.goto 4, 3) := dk_167 0 4 (dk_at dksX4_sees_3 16 rfl rfl)
theorem dX4_sees_89 : decode cX4_sees 89 = .ok (.iconst 1, 1) := dk_4 (dk_at dksX4_sees_3 19 rfl rfl)
theorem dX4_sees_90 : decode cX4_sees 90 = .ok (.if_icmp .le 5, 3) := dk_164 0 5 (dk_at dksX4_sees_3 20 rfl rfl)
theorem dX4_sees_93 : decode cX4_sees 93 = .ok (.iconst 0, 1) := dk_3 (dk_at dksX4_sees_3 23 rfl rfl)
theorem dX4_sees_94 : decode cX4_sees 94 = .ok (.ireturn, 1) := dk_172 (dk_at dksX4_sees_4 0 rfl rfl)
theorem dX4_sees_95 : decode cX4_sees 95 = .ok (.iload_n 3, 1) := dk_29 (dk_at dksX4_sees_4 1 rfl rfl)
theorem dX4_sees_96 : decode cX4_sees 96 = .ok (.invokestatic 100, 3) := dk_184 0 100 (dk_at dksX4_sees_4 2 rfl rfl)
theorem dX4_sees_99 : decode cX4_sees 99 = .ok (.bipush 12, 2) := dk_16 12 (dk_at dksX4_sees_4 5 rfl rfl)
theorem dX4_sees_101 : decode cX4_sees 101 = .ok (.iload 4, 2) := dk_21 4 (dk_at dksX4_sees_4 7 rfl rfl)
theorem dX4_sees_103 : decode cX4_sees 103 = .ok (.invokestatic 100, 3) := dk_184 0 100 (dk_at dksX4_sees_4 9 rfl rfl)
theorem dX4_sees_106 : decode cX4_sees 106 = .ok (.imul, 1) := dk_104 (dk_at dksX4_sees_4 12 rfl rfl)
theorem dX4_sees_107 : decode cX4_sees 107 = .ok (.iadd, 1) := dk_96 (dk_at dksX4_sees_4 13 rfl rfl)
theorem dX4_sees_108 : decode cX4_sees 108 = .ok (.istore 6, 2) := dk_54 6 (dk_at dksX4_sees_4 14 rfl rfl)
theorem dX4_sees_110 : decode cX4_sees 110 = .ok (.iconst 1, 1) := dk_4 (dk_at dksX4_sees_4 16 rfl rfl)
theorem dX4_sees_111 : decode cX4_sees 111 = .ok (.istore 7, 2) := dk_54 7 (dk_at dksX4_sees_4 17 rfl rfl)
theorem dX4_sees_113 : decode cX4_sees 113 = .ok (.iload 7, 2) := dk_21 7 (dk_at dksX4_sees_4 19 rfl rfl)
theorem dX4_sees_115 : decode cX4_sees 115 = .ok (.iload 5, 2) := dk_21 5 (dk_at dksX4_sees_4 21 rfl rfl)
theorem dX4_sees_117 : decode cX4_sees 117 = .ok (.if_icmp .ge 31, 3) := dk_162 0 31 (dk_at dksX4_sees_5 0 rfl rfl)
theorem dX4_sees_120 : decode cX4_sees 120 = .ok (.aload_n 0, 1) := dk_42 (dk_at dksX4_sees_5 3 rfl rfl)
theorem dX4_sees_121 : decode cX4_sees 121 = .ok (.getfield 15, 3) := dk_180 0 15 (dk_at dksX4_sees_5 4 rfl rfl)
theorem dX4_sees_124 : decode cX4_sees 124 = .ok (.aload_n 0, 1) := dk_42 (dk_at dksX4_sees_5 7 rfl rfl)
theorem dX4_sees_125 : decode cX4_sees 125 = .ok (.getfield 37, 3) := dk_180 0 37 (dk_at dksX4_sees_5 8 rfl rfl)
theorem dX4_sees_128 : decode cX4_sees 128 = .ok (.iload_n 1, 1) := dk_27 (dk_at dksX4_sees_5 11 rfl rfl)
theorem dX4_sees_129 : decode cX4_sees 129 = .ok (.iaload, 1) := dk_46 (dk_at dksX4_sees_5 12 rfl rfl)
theorem dX4_sees_130 : decode cX4_sees 130 = .ok (.iload 7, 2) := dk_21 7 (dk_at dksX4_sees_5 13 rfl rfl)
theorem dX4_sees_132 : decode cX4_sees 132 = .ok (.iload 6, 2) := dk_21 6 (dk_at dksX4_sees_5 15 rfl rfl)
theorem dX4_sees_134 : decode cX4_sees 134 = .ok (.imul, 1) := dk_104 (dk_at dksX4_sees_5 17 rfl rfl)
theorem dX4_sees_135 : decode cX4_sees 135 = .ok (.iadd, 1) := dk_96 (dk_at dksX4_sees_5 18 rfl rfl)
theorem dX4_sees_136 : decode cX4_sees 136 = .ok (.iaload, 1) := dk_46 (dk_at dksX4_sees_5 19 rfl rfl)
theorem dX4_sees_137 : decode cX4_sees 137 = .ok (.ifCond .eq 5, 3) := dk_153 0 5 (dk_at dksX4_sees_5 20 rfl rfl)
theorem dX4_sees_140 : decode cX4_sees 140 = .ok (.iconst 0, 1) := dk_3 (dk_at dksX4_sees_5 23 rfl rfl)
theorem dX4_sees_141 : decode cX4_sees 141 = .ok (.ireturn, 1) := dk_172 (dk_at dksX4_sees_6 0 rfl rfl)
theorem dX4_sees_142 : decode cX4_sees 142 = .ok (.iinc 7 1, 3) := dk_132 7 1 (dk_at dksX4_sees_6 1 rfl rfl)
theorem dX4_sees_145 : decode cX4_sees 145 = .ok (.goto (-32), 3) := dk_167 255 224 (dk_at dksX4_sees_6 4 rfl rfl)
theorem dX4_sees_148 : decode cX4_sees 148 = .ok (.iconst 1, 1) := dk_4 (dk_at dksX4_sees_6 7 rfl rfl)
theorem dX4_sees_149 : decode cX4_sees 149 = .ok (.ireturn, 1) := dk_172 (dk_at dksX4_sees_6 8 rfl rfl)
abbrev cX4_barricades : ByteArray := prog_7_method_16_code
def yX4_barricades : MethodName := ⟨RX4, "barricades", "()I"⟩
def dkwX4_barricades_1 : List UInt8 := [54, 5, 27, 3, 21, 5, 184, 0, 118, 96, 60, 132, 4, 1, 167, 255, 232, 27, 172]
abbrev dktX4_barricades_1 : List UInt8 := dkwX4_barricades_1 ++ []
def dkwX4_barricades_0 : List UInt8 := [3, 60, 42, 180, 0, 15, 77, 44, 190, 62, 3, 54, 4, 21, 4, 29, 162, 0, 24, 44, 21, 4, 46]
abbrev dktX4_barricades_0 : List UInt8 := dkwX4_barricades_0 ++ dktX4_barricades_1
theorem dksX4_barricades_0 : cX4_barricades.data.toList.drop 0 = dktX4_barricades_0 := by decide +kernel
theorem dksX4_barricades_1 : cX4_barricades.data.toList.drop 23 = dktX4_barricades_1 := dk_seg dksX4_barricades_0 23 rfl rfl
theorem dX4_barricades_0 : decode cX4_barricades 0 = .ok (.iconst 0, 1) := dk_3 (dk_at dksX4_barricades_0 0 rfl rfl)
theorem dX4_barricades_1 : decode cX4_barricades 1 = .ok (.istore_n 1, 1) := dk_60 (dk_at dksX4_barricades_0 1 rfl rfl)
theorem dX4_barricades_2 : decode cX4_barricades 2 = .ok (.aload_n 0, 1) := dk_42 (dk_at dksX4_barricades_0 2 rfl rfl)
theorem dX4_barricades_3 : decode cX4_barricades 3 = .ok (.getfield 15, 3) := dk_180 0 15 (dk_at dksX4_barricades_0 3 rfl rfl)
theorem dX4_barricades_6 : decode cX4_barricades 6 = .ok (.astore_n 2, 1) := dk_77 (dk_at dksX4_barricades_0 6 rfl rfl)
theorem dX4_barricades_7 : decode cX4_barricades 7 = .ok (.aload_n 2, 1) := dk_44 (dk_at dksX4_barricades_0 7 rfl rfl)
theorem dX4_barricades_8 : decode cX4_barricades 8 = .ok (.arraylength, 1) := dk_190 (dk_at dksX4_barricades_0 8 rfl rfl)
theorem dX4_barricades_9 : decode cX4_barricades 9 = .ok (.istore_n 3, 1) := dk_62 (dk_at dksX4_barricades_0 9 rfl rfl)
theorem dX4_barricades_10 : decode cX4_barricades 10 = .ok (.iconst 0, 1) := dk_3 (dk_at dksX4_barricades_0 10 rfl rfl)
theorem dX4_barricades_11 : decode cX4_barricades 11 = .ok (.istore 4, 2) := dk_54 4 (dk_at dksX4_barricades_0 11 rfl rfl)
theorem dX4_barricades_13 : decode cX4_barricades 13 = .ok (.iload 4, 2) := dk_21 4 (dk_at dksX4_barricades_0 13 rfl rfl)
theorem dX4_barricades_15 : decode cX4_barricades 15 = .ok (.iload_n 3, 1) := dk_29 (dk_at dksX4_barricades_0 15 rfl rfl)
theorem dX4_barricades_16 : decode cX4_barricades 16 = .ok (.if_icmp .ge 24, 3) := dk_162 0 24 (dk_at dksX4_barricades_0 16 rfl rfl)
theorem dX4_barricades_19 : decode cX4_barricades 19 = .ok (.aload_n 2, 1) := dk_44 (dk_at dksX4_barricades_0 19 rfl rfl)
theorem dX4_barricades_20 : decode cX4_barricades 20 = .ok (.iload 4, 2) := dk_21 4 (dk_at dksX4_barricades_0 20 rfl rfl)
theorem dX4_barricades_22 : decode cX4_barricades 22 = .ok (.iaload, 1) := dk_46 (dk_at dksX4_barricades_0 22 rfl rfl)
theorem dX4_barricades_23 : decode cX4_barricades 23 = .ok (.istore 5, 2) := dk_54 5 (dk_at dksX4_barricades_1 0 rfl rfl)
theorem dX4_barricades_25 : decode cX4_barricades 25 = .ok (.iload_n 1, 1) := dk_27 (dk_at dksX4_barricades_1 2 rfl rfl)
theorem dX4_barricades_26 : decode cX4_barricades 26 = .ok (.iconst 0, 1) := dk_3 (dk_at dksX4_barricades_1 3 rfl rfl)
theorem dX4_barricades_27 : decode cX4_barricades 27 = .ok (.iload 5, 2) := dk_21 5 (dk_at dksX4_barricades_1 4 rfl rfl)
theorem dX4_barricades_29 : decode cX4_barricades 29 = .ok (.invokestatic 118, 3) := dk_184 0 118 (dk_at dksX4_barricades_1 6 rfl rfl)
theorem dX4_barricades_32 : decode cX4_barricades 32 = .ok (.iadd, 1) := dk_96 (dk_at dksX4_barricades_1 9 rfl rfl)
theorem dX4_barricades_33 : decode cX4_barricades 33 = .ok (.istore_n 1, 1) := dk_60 (dk_at dksX4_barricades_1 10 rfl rfl)
theorem dX4_barricades_34 : decode cX4_barricades 34 = .ok (.iinc 4 1, 3) := dk_132 4 1 (dk_at dksX4_barricades_1 11 rfl rfl)
theorem dX4_barricades_37 : decode cX4_barricades 37 = .ok (.goto (-24), 3) := dk_167 255 232 (dk_at dksX4_barricades_1 14 rfl rfl)
theorem dX4_barricades_40 : decode cX4_barricades 40 = .ok (.iload_n 1, 1) := dk_27 (dk_at dksX4_barricades_1 17 rfl rfl)
theorem dX4_barricades_41 : decode cX4_barricades 41 = .ok (.ireturn, 1) := dk_172 (dk_at dksX4_barricades_1 18 rfl rfl)
abbrev cX4_allPeople : ByteArray := prog_7_method_15_code
def yX4_allPeople : MethodName := ⟨RX4, "allPeople", "()I"⟩
def dkwX4_allPeople_1 : List UInt8 := [132, 2, 1, 167, 255, 233, 27, 172]
abbrev dktX4_allPeople_1 : List UInt8 := dkwX4_allPeople_1 ++ []
def dkwX4_allPeople_0 : List UInt8 := [3, 60, 3, 61, 28, 42, 180, 0, 3, 180, 0, 57, 162, 0, 18, 27, 42, 180, 0, 22, 28, 46, 96, 60]
abbrev dktX4_allPeople_0 : List UInt8 := dkwX4_allPeople_0 ++ dktX4_allPeople_1
theorem dksX4_allPeople_0 : cX4_allPeople.data.toList.drop 0 = dktX4_allPeople_0 := by decide +kernel
theorem dksX4_allPeople_1 : cX4_allPeople.data.toList.drop 24 = dktX4_allPeople_1 := dk_seg dksX4_allPeople_0 24 rfl rfl
theorem dX4_allPeople_0 : decode cX4_allPeople 0 = .ok (.iconst 0, 1) := dk_3 (dk_at dksX4_allPeople_0 0 rfl rfl)
theorem dX4_allPeople_1 : decode cX4_allPeople 1 = .ok (.istore_n 1, 1) := dk_60 (dk_at dksX4_allPeople_0 1 rfl rfl)
theorem dX4_allPeople_2 : decode cX4_allPeople 2 = .ok (.iconst 0, 1) := dk_3 (dk_at dksX4_allPeople_0 2 rfl rfl)
theorem dX4_allPeople_3 : decode cX4_allPeople 3 = .ok (.istore_n 2, 1) := dk_61 (dk_at dksX4_allPeople_0 3 rfl rfl)
theorem dX4_allPeople_4 : decode cX4_allPeople 4 = .ok (.iload_n 2, 1) := dk_28 (dk_at dksX4_allPeople_0 4 rfl rfl)
theorem dX4_allPeople_5 : decode cX4_allPeople 5 = .ok (.aload_n 0, 1) := dk_42 (dk_at dksX4_allPeople_0 5 rfl rfl)
theorem dX4_allPeople_6 : decode cX4_allPeople 6 = .ok (.getfield 3, 3) := dk_180 0 3 (dk_at dksX4_allPeople_0 6 rfl rfl)
theorem dX4_allPeople_9 : decode cX4_allPeople 9 = .ok (.getfield 57, 3) := dk_180 0 57 (dk_at dksX4_allPeople_0 9 rfl rfl)
theorem dX4_allPeople_12 : decode cX4_allPeople 12 = .ok (.if_icmp .ge 18, 3) := dk_162 0 18 (dk_at dksX4_allPeople_0 12 rfl rfl)
theorem dX4_allPeople_15 : decode cX4_allPeople 15 = .ok (.iload_n 1, 1) := dk_27 (dk_at dksX4_allPeople_0 15 rfl rfl)
theorem dX4_allPeople_16 : decode cX4_allPeople 16 = .ok (.aload_n 0, 1) := dk_42 (dk_at dksX4_allPeople_0 16 rfl rfl)
theorem dX4_allPeople_17 : decode cX4_allPeople 17 = .ok (.getfield 22, 3) := dk_180 0 22 (dk_at dksX4_allPeople_0 17 rfl rfl)
theorem dX4_allPeople_20 : decode cX4_allPeople 20 = .ok (.iload_n 2, 1) := dk_28 (dk_at dksX4_allPeople_0 20 rfl rfl)
theorem dX4_allPeople_21 : decode cX4_allPeople 21 = .ok (.iaload, 1) := dk_46 (dk_at dksX4_allPeople_0 21 rfl rfl)
theorem dX4_allPeople_22 : decode cX4_allPeople 22 = .ok (.iadd, 1) := dk_96 (dk_at dksX4_allPeople_0 22 rfl rfl)
theorem dX4_allPeople_23 : decode cX4_allPeople 23 = .ok (.istore_n 1, 1) := dk_60 (dk_at dksX4_allPeople_0 23 rfl rfl)
theorem dX4_allPeople_24 : decode cX4_allPeople 24 = .ok (.iinc 2 1, 3) := dk_132 2 1 (dk_at dksX4_allPeople_1 0 rfl rfl)
theorem dX4_allPeople_27 : decode cX4_allPeople 27 = .ok (.goto (-23), 3) := dk_167 255 233 (dk_at dksX4_allPeople_1 3 rfl rfl)
theorem dX4_allPeople_30 : decode cX4_allPeople 30 = .ok (.iload_n 1, 1) := dk_27 (dk_at dksX4_allPeople_1 6 rfl rfl)
theorem dX4_allPeople_31 : decode cX4_allPeople 31 = .ok (.ireturn, 1) := dk_172 (dk_at dksX4_allPeople_1 7 rfl rfl)
abbrev cX4_shuts : ByteArray := prog_7_method_17_code
def yX4_shuts : MethodName := ⟨RX4, "shuts", "()I"⟩
def dkwX4_shuts_6 : List UInt8 := [29, 46, 184, 0, 130, 61, 132, 3, 1, 167, 255, 233, 28, 172]
abbrev dktX4_shuts_6 : List UInt8 := dkwX4_shuts_6 ++ []
def dkwX4_shuts_5 : List UInt8 := [167, 255, 181, 17, 39, 15, 61, 16, 96, 62, 29, 16, 108, 162, 0, 23, 28, 42, 180, 0, 3, 180, 0, 121]
abbrev dktX4_shuts_5 : List UInt8 := dkwX4_shuts_5 ++ dktX4_shuts_6
def dkwX4_shuts_4 : List UInt8 := [167, 0, 4, 3, 128, 60, 42, 180, 0, 3, 180, 0, 121, 28, 29, 79, 132, 2, 1, 167, 255, 192]
abbrev dktX4_shuts_4 : List UInt8 := dkwX4_shuts_4 ++ dktX4_shuts_5
def dkwX4_shuts_3 : List UInt8 := [182, 0, 124, 96, 184, 0, 130, 62, 27, 29, 42, 180, 0, 3, 180, 0, 121, 28, 46, 162, 0, 7, 4]
abbrev dktX4_shuts_3 : List UInt8 := dkwX4_shuts_3 ++ dktX4_shuts_4
def dkwX4_shuts_2 : List UInt8 := [3, 61, 28, 16, 108, 162, 0, 64, 42, 180, 0, 3, 180, 0, 121, 28, 46, 42, 28, 182, 0, 127, 42, 28]
abbrev dktX4_shuts_2 : List UInt8 := dkwX4_shuts_2 ++ dktX4_shuts_3
def dkwX4_shuts_1 : List UInt8 := [182, 0, 124, 167, 0, 6, 17, 39, 15, 79, 132, 1, 1, 167, 255, 221, 4, 60, 27, 153, 0, 77, 3, 60]
abbrev dktX4_shuts_1 : List UInt8 := dkwX4_shuts_1 ++ dktX4_shuts_2
def dkwX4_shuts_0 : List UInt8 := [3, 60, 27, 16, 108, 162, 0, 35, 42, 180, 0, 3, 180, 0, 121, 27, 27, 16, 12, 162, 0, 11, 42, 27]
abbrev dktX4_shuts_0 : List UInt8 := dkwX4_shuts_0 ++ dktX4_shuts_1
theorem dksX4_shuts_0 : cX4_shuts.data.toList.drop 0 = dktX4_shuts_0 := by decide +kernel
theorem dksX4_shuts_1 : cX4_shuts.data.toList.drop 24 = dktX4_shuts_1 := dk_seg dksX4_shuts_0 24 rfl rfl
theorem dksX4_shuts_2 : cX4_shuts.data.toList.drop 48 = dktX4_shuts_2 := dk_seg dksX4_shuts_1 24 rfl rfl
theorem dksX4_shuts_3 : cX4_shuts.data.toList.drop 72 = dktX4_shuts_3 := dk_seg dksX4_shuts_2 24 rfl rfl
theorem dksX4_shuts_4 : cX4_shuts.data.toList.drop 95 = dktX4_shuts_4 := dk_seg dksX4_shuts_3 23 rfl rfl
theorem dksX4_shuts_5 : cX4_shuts.data.toList.drop 117 = dktX4_shuts_5 := dk_seg dksX4_shuts_4 22 rfl rfl
theorem dksX4_shuts_6 : cX4_shuts.data.toList.drop 141 = dktX4_shuts_6 := dk_seg dksX4_shuts_5 24 rfl rfl
theorem dX4_shuts_0 : decode cX4_shuts 0 = .ok (.iconst 0, 1) := dk_3 (dk_at dksX4_shuts_0 0 rfl rfl)
theorem dX4_shuts_1 : decode cX4_shuts 1 = .ok (.istore_n 1, 1) := dk_60 (dk_at dksX4_shuts_0 1 rfl rfl)
theorem dX4_shuts_2 : decode cX4_shuts 2 = .ok (.iload_n 1, 1) := dk_27 (dk_at dksX4_shuts_0 2 rfl rfl)
theorem dX4_shuts_3 : decode cX4_shuts 3 = .ok (.bipush 108, 2) := dk_16 108 (dk_at dksX4_shuts_0 3 rfl rfl)
theorem dX4_shuts_5 : decode cX4_shuts 5 = .ok (.if_icmp .ge 35, 3) := dk_162 0 35 (dk_at dksX4_shuts_0 5 rfl rfl)
theorem dX4_shuts_8 : decode cX4_shuts 8 = .ok (.aload_n 0, 1) := dk_42 (dk_at dksX4_shuts_0 8 rfl rfl)
theorem dX4_shuts_9 : decode cX4_shuts 9 = .ok (.getfield 3, 3) := dk_180 0 3 (dk_at dksX4_shuts_0 9 rfl rfl)
theorem dX4_shuts_12 : decode cX4_shuts 12 = .ok (.getfield 121, 3) := dk_180 0 121 (dk_at dksX4_shuts_0 12 rfl rfl)
theorem dX4_shuts_15 : decode cX4_shuts 15 = .ok (.iload_n 1, 1) := dk_27 (dk_at dksX4_shuts_0 15 rfl rfl)
theorem dX4_shuts_16 : decode cX4_shuts 16 = .ok (.iload_n 1, 1) := dk_27 (dk_at dksX4_shuts_0 16 rfl rfl)
theorem dX4_shuts_17 : decode cX4_shuts 17 = .ok (.bipush 12, 2) := dk_16 12 (dk_at dksX4_shuts_0 17 rfl rfl)
theorem dX4_shuts_19 : decode cX4_shuts 19 = .ok (.if_icmp .ge 11, 3) := dk_162 0 11 (dk_at dksX4_shuts_0 19 rfl rfl)
theorem dX4_shuts_22 : decode cX4_shuts 22 = .ok (.aload_n 0, 1) := dk_42 (dk_at dksX4_shuts_0 22 rfl rfl)
theorem dX4_shuts_23 : decode cX4_shuts 23 = .ok (.iload_n 1, 1) := dk_27 (dk_at dksX4_shuts_0 23 rfl rfl)
theorem dX4_shuts_24 : decode cX4_shuts 24 = .ok (.invokevirtual 124, 3) := dk_182 0 124 (dk_at dksX4_shuts_1 0 rfl rfl)
theorem dX4_shuts_27 : decode cX4_shuts 27 = .ok (.goto 6, 3) := dk_167 0 6 (dk_at dksX4_shuts_1 3 rfl rfl)
theorem dX4_shuts_30 : decode cX4_shuts 30 = .ok (.sipush 9999, 3) := dk_17 39 15 (dk_at dksX4_shuts_1 6 rfl rfl)
theorem dX4_shuts_33 : decode cX4_shuts 33 = .ok (.iastore, 1) := dk_79 (dk_at dksX4_shuts_1 9 rfl rfl)
theorem dX4_shuts_34 : decode cX4_shuts 34 = .ok (.iinc 1 1, 3) := dk_132 1 1 (dk_at dksX4_shuts_1 10 rfl rfl)
theorem dX4_shuts_37 : decode cX4_shuts 37 = .ok (.goto (-35), 3) := dk_167 255 221 (dk_at dksX4_shuts_1 13 rfl rfl)
theorem dX4_shuts_40 : decode cX4_shuts 40 = .ok (.iconst 1, 1) := dk_4 (dk_at dksX4_shuts_1 16 rfl rfl)
theorem dX4_shuts_41 : decode cX4_shuts 41 = .ok (.istore_n 1, 1) := dk_60 (dk_at dksX4_shuts_1 17 rfl rfl)
theorem dX4_shuts_42 : decode cX4_shuts 42 = .ok (.iload_n 1, 1) := dk_27 (dk_at dksX4_shuts_1 18 rfl rfl)
theorem dX4_shuts_43 : decode cX4_shuts 43 = .ok (.ifCond .eq 77, 3) := dk_153 0 77 (dk_at dksX4_shuts_1 19 rfl rfl)
theorem dX4_shuts_46 : decode cX4_shuts 46 = .ok (.iconst 0, 1) := dk_3 (dk_at dksX4_shuts_1 22 rfl rfl)
theorem dX4_shuts_47 : decode cX4_shuts 47 = .ok (.istore_n 1, 1) := dk_60 (dk_at dksX4_shuts_1 23 rfl rfl)
theorem dX4_shuts_48 : decode cX4_shuts 48 = .ok (.iconst 0, 1) := dk_3 (dk_at dksX4_shuts_2 0 rfl rfl)
theorem dX4_shuts_49 : decode cX4_shuts 49 = .ok (.istore_n 2, 1) := dk_61 (dk_at dksX4_shuts_2 1 rfl rfl)
theorem dX4_shuts_50 : decode cX4_shuts 50 = .ok (.iload_n 2, 1) := dk_28 (dk_at dksX4_shuts_2 2 rfl rfl)
theorem dX4_shuts_51 : decode cX4_shuts 51 = .ok (.bipush 108, 2) := dk_16 108 (dk_at dksX4_shuts_2 3 rfl rfl)
theorem dX4_shuts_53 : decode cX4_shuts 53 = .ok (.if_icmp .ge 64, 3) := dk_162 0 64 (dk_at dksX4_shuts_2 5 rfl rfl)
theorem dX4_shuts_56 : decode cX4_shuts 56 = .ok (.aload_n 0, 1) := dk_42 (dk_at dksX4_shuts_2 8 rfl rfl)
theorem dX4_shuts_57 : decode cX4_shuts 57 = .ok (.getfield 3, 3) := dk_180 0 3 (dk_at dksX4_shuts_2 9 rfl rfl)
theorem dX4_shuts_60 : decode cX4_shuts 60 = .ok (.getfield 121, 3) := dk_180 0 121 (dk_at dksX4_shuts_2 12 rfl rfl)
theorem dX4_shuts_63 : decode cX4_shuts 63 = .ok (.iload_n 2, 1) := dk_28 (dk_at dksX4_shuts_2 15 rfl rfl)
theorem dX4_shuts_64 : decode cX4_shuts 64 = .ok (.iaload, 1) := dk_46 (dk_at dksX4_shuts_2 16 rfl rfl)
theorem dX4_shuts_65 : decode cX4_shuts 65 = .ok (.aload_n 0, 1) := dk_42 (dk_at dksX4_shuts_2 17 rfl rfl)
theorem dX4_shuts_66 : decode cX4_shuts 66 = .ok (.iload_n 2, 1) := dk_28 (dk_at dksX4_shuts_2 18 rfl rfl)
theorem dX4_shuts_67 : decode cX4_shuts 67 = .ok (.invokevirtual 127, 3) := dk_182 0 127 (dk_at dksX4_shuts_2 19 rfl rfl)
theorem dX4_shuts_70 : decode cX4_shuts 70 = .ok (.aload_n 0, 1) := dk_42 (dk_at dksX4_shuts_2 22 rfl rfl)
theorem dX4_shuts_71 : decode cX4_shuts 71 = .ok (.iload_n 2, 1) := dk_28 (dk_at dksX4_shuts_2 23 rfl rfl)
theorem dX4_shuts_72 : decode cX4_shuts 72 = .ok (.invokevirtual 124, 3) := dk_182 0 124 (dk_at dksX4_shuts_3 0 rfl rfl)
theorem dX4_shuts_75 : decode cX4_shuts 75 = .ok (.iadd, 1) := dk_96 (dk_at dksX4_shuts_3 3 rfl rfl)
theorem dX4_shuts_76 : decode cX4_shuts 76 = .ok (.invokestatic 130, 3) := dk_184 0 130 (dk_at dksX4_shuts_3 4 rfl rfl)
theorem dX4_shuts_79 : decode cX4_shuts 79 = .ok (.istore_n 3, 1) := dk_62 (dk_at dksX4_shuts_3 7 rfl rfl)
theorem dX4_shuts_80 : decode cX4_shuts 80 = .ok (.iload_n 1, 1) := dk_27 (dk_at dksX4_shuts_3 8 rfl rfl)
theorem dX4_shuts_81 : decode cX4_shuts 81 = .ok (.iload_n 3, 1) := dk_29 (dk_at dksX4_shuts_3 9 rfl rfl)
theorem dX4_shuts_82 : decode cX4_shuts 82 = .ok (.aload_n 0, 1) := dk_42 (dk_at dksX4_shuts_3 10 rfl rfl)
theorem dX4_shuts_83 : decode cX4_shuts 83 = .ok (.getfield 3, 3) := dk_180 0 3 (dk_at dksX4_shuts_3 11 rfl rfl)
theorem dX4_shuts_86 : decode cX4_shuts 86 = .ok (.getfield 121, 3) := dk_180 0 121 (dk_at dksX4_shuts_3 14 rfl rfl)
theorem dX4_shuts_89 : decode cX4_shuts 89 = .ok (.iload_n 2, 1) := dk_28 (dk_at dksX4_shuts_3 17 rfl rfl)
theorem dX4_shuts_90 : decode cX4_shuts 90 = .ok (.iaload, 1) := dk_46 (dk_at dksX4_shuts_3 18 rfl rfl)
theorem dX4_shuts_91 : decode cX4_shuts 91 = .ok (.if_icmp .ge 7, 3) := dk_162 0 7 (dk_at dksX4_shuts_3 19 rfl rfl)
theorem dX4_shuts_94 : decode cX4_shuts 94 = .ok (.iconst 1, 1) := dk_4 (dk_at dksX4_shuts_3 22 rfl rfl)
theorem dX4_shuts_95 : decode cX4_shuts 95 = .ok (.goto 4, 3) := dk_167 0 4 (dk_at dksX4_shuts_4 0 rfl rfl)
theorem dX4_shuts_98 : decode cX4_shuts 98 = .ok (.iconst 0, 1) := dk_3 (dk_at dksX4_shuts_4 3 rfl rfl)
theorem dX4_shuts_99 : decode cX4_shuts 99 = .ok (.ior, 1) := dk_128 (dk_at dksX4_shuts_4 4 rfl rfl)
theorem dX4_shuts_100 : decode cX4_shuts 100 = .ok (.istore_n 1, 1) := dk_60 (dk_at dksX4_shuts_4 5 rfl rfl)
theorem dX4_shuts_101 : decode cX4_shuts 101 = .ok (.aload_n 0, 1) := dk_42 (dk_at dksX4_shuts_4 6 rfl rfl)
theorem dX4_shuts_102 : decode cX4_shuts 102 = .ok (.getfield 3, 3) := dk_180 0 3 (dk_at dksX4_shuts_4 7 rfl rfl)
theorem dX4_shuts_105 : decode cX4_shuts 105 = .ok (.getfield 121, 3) := dk_180 0 121 (dk_at dksX4_shuts_4 10 rfl rfl)
theorem dX4_shuts_108 : decode cX4_shuts 108 = .ok (.iload_n 2, 1) := dk_28 (dk_at dksX4_shuts_4 13 rfl rfl)
theorem dX4_shuts_109 : decode cX4_shuts 109 = .ok (.iload_n 3, 1) := dk_29 (dk_at dksX4_shuts_4 14 rfl rfl)
theorem dX4_shuts_110 : decode cX4_shuts 110 = .ok (.iastore, 1) := dk_79 (dk_at dksX4_shuts_4 15 rfl rfl)
theorem dX4_shuts_111 : decode cX4_shuts 111 = .ok (.iinc 2 1, 3) := dk_132 2 1 (dk_at dksX4_shuts_4 16 rfl rfl)
theorem dX4_shuts_114 : decode cX4_shuts 114 = .ok (.goto (-64), 3) := dk_167 255 192 (dk_at dksX4_shuts_4 19 rfl rfl)
theorem dX4_shuts_117 : decode cX4_shuts 117 = .ok (.goto (-75), 3) := dk_167 255 181 (dk_at dksX4_shuts_5 0 rfl rfl)
theorem dX4_shuts_120 : decode cX4_shuts 120 = .ok (.sipush 9999, 3) := dk_17 39 15 (dk_at dksX4_shuts_5 3 rfl rfl)
theorem dX4_shuts_123 : decode cX4_shuts 123 = .ok (.istore_n 2, 1) := dk_61 (dk_at dksX4_shuts_5 6 rfl rfl)
theorem dX4_shuts_124 : decode cX4_shuts 124 = .ok (.bipush 96, 2) := dk_16 96 (dk_at dksX4_shuts_5 7 rfl rfl)
theorem dX4_shuts_126 : decode cX4_shuts 126 = .ok (.istore_n 3, 1) := dk_62 (dk_at dksX4_shuts_5 9 rfl rfl)
theorem dX4_shuts_127 : decode cX4_shuts 127 = .ok (.iload_n 3, 1) := dk_29 (dk_at dksX4_shuts_5 10 rfl rfl)
theorem dX4_shuts_128 : decode cX4_shuts 128 = .ok (.bipush 108, 2) := dk_16 108 (dk_at dksX4_shuts_5 11 rfl rfl)
theorem dX4_shuts_130 : decode cX4_shuts 130 = .ok (.if_icmp .ge 23, 3) := dk_162 0 23 (dk_at dksX4_shuts_5 13 rfl rfl)
theorem dX4_shuts_133 : decode cX4_shuts 133 = .ok (.iload_n 2, 1) := dk_28 (dk_at dksX4_shuts_5 16 rfl rfl)
theorem dX4_shuts_134 : decode cX4_shuts 134 = .ok (.aload_n 0, 1) := dk_42 (dk_at dksX4_shuts_5 17 rfl rfl)
theorem dX4_shuts_135 : decode cX4_shuts 135 = .ok (.getfield 3, 3) := dk_180 0 3 (dk_at dksX4_shuts_5 18 rfl rfl)
theorem dX4_shuts_138 : decode cX4_shuts 138 = .ok (.getfield 121, 3) := dk_180 0 121 (dk_at dksX4_shuts_5 21 rfl rfl)
theorem dX4_shuts_141 : decode cX4_shuts 141 = .ok (.iload_n 3, 1) := dk_29 (dk_at dksX4_shuts_6 0 rfl rfl)
theorem dX4_shuts_142 : decode cX4_shuts 142 = .ok (.iaload, 1) := dk_46 (dk_at dksX4_shuts_6 1 rfl rfl)
theorem dX4_shuts_143 : decode cX4_shuts 143 = .ok (.invokestatic 130, 3) := dk_184 0 130 (dk_at dksX4_shuts_6 2 rfl rfl)
theorem dX4_shuts_146 : decode cX4_shuts 146 = .ok (.istore_n 2, 1) := dk_61 (dk_at dksX4_shuts_6 5 rfl rfl)
theorem dX4_shuts_147 : decode cX4_shuts 147 = .ok (.iinc 3 1, 3) := dk_132 3 1 (dk_at dksX4_shuts_6 6 rfl rfl)
theorem dX4_shuts_150 : decode cX4_shuts 150 = .ok (.goto (-23), 3) := dk_167 255 233 (dk_at dksX4_shuts_6 9 rfl rfl)
theorem dX4_shuts_153 : decode cX4_shuts 153 = .ok (.iload_n 2, 1) := dk_28 (dk_at dksX4_shuts_6 12 rfl rfl)
theorem dX4_shuts_154 : decode cX4_shuts 154 = .ok (.ireturn, 1) := dk_172 (dk_at dksX4_shuts_6 13 rfl rfl)
abbrev cX4_cost : ByteArray := prog_7_method_18_code
def yX4_cost : MethodName := ⟨RX4, "cost", "(I)I"⟩
def dkwX4_cost_0 : List UInt8 := [42, 180, 0, 15, 27, 46, 154, 0, 7, 4, 167, 0, 4, 3, 172]
abbrev dktX4_cost_0 : List UInt8 := dkwX4_cost_0 ++ []
theorem dksX4_cost_0 : cX4_cost.data.toList.drop 0 = dktX4_cost_0 := by decide +kernel
theorem dX4_cost_0 : decode cX4_cost 0 = .ok (.aload_n 0, 1) := dk_42 (dk_at dksX4_cost_0 0 rfl rfl)
theorem dX4_cost_1 : decode cX4_cost 1 = .ok (.getfield 15, 3) := dk_180 0 15 (dk_at dksX4_cost_0 1 rfl rfl)
theorem dX4_cost_4 : decode cX4_cost 4 = .ok (.iload_n 1, 1) := dk_27 (dk_at dksX4_cost_0 4 rfl rfl)
theorem dX4_cost_5 : decode cX4_cost 5 = .ok (.iaload, 1) := dk_46 (dk_at dksX4_cost_0 5 rfl rfl)
theorem dX4_cost_6 : decode cX4_cost 6 = .ok (.ifCond .ne 7, 3) := dk_154 0 7 (dk_at dksX4_cost_0 6 rfl rfl)
theorem dX4_cost_9 : decode cX4_cost 9 = .ok (.iconst 1, 1) := dk_4 (dk_at dksX4_cost_0 9 rfl rfl)
theorem dX4_cost_10 : decode cX4_cost 10 = .ok (.goto 4, 3) := dk_167 0 4 (dk_at dksX4_cost_0 10 rfl rfl)
theorem dX4_cost_13 : decode cX4_cost 13 = .ok (.iconst 0, 1) := dk_3 (dk_at dksX4_cost_0 13 rfl rfl)
theorem dX4_cost_14 : decode cX4_cost 14 = .ok (.ireturn, 1) := dk_172 (dk_at dksX4_cost_0 14 rfl rfl)
abbrev cX4_leastBeside : ByteArray := prog_7_method_19_code
def yX4_leastBeside : MethodName := ⟨RX4, "leastBeside", "(I)I"⟩
def dkwX4_leastBeside_4 : List UInt8 := [172]
abbrev dktX4_leastBeside_4 : List UInt8 := dkwX4_leastBeside_4 ++ []
def dkwX4_leastBeside_3 : List UInt8 := [104, 21, 5, 96, 46, 184, 0, 130, 54, 4, 132, 6, 1, 167, 255, 217, 132, 5, 1, 167, 255, 189, 21, 4]
abbrev dktX4_leastBeside_3 : List UInt8 := dkwX4_leastBeside_3 ++ dktX4_leastBeside_4
def dkwX4_leastBeside_2 : List UInt8 := [16, 8, 29, 4, 96, 184, 0, 130, 163, 0, 32, 21, 4, 42, 180, 0, 3, 180, 0, 121, 16, 12, 21, 6]
abbrev dktX4_leastBeside_2 : List UInt8 := dkwX4_leastBeside_2 ++ dktX4_leastBeside_3
def dkwX4_leastBeside_1 : List UInt8 := [21, 5, 16, 11, 28, 4, 96, 184, 0, 130, 163, 0, 60, 3, 29, 4, 100, 184, 0, 118, 54, 6, 21, 6]
abbrev dktX4_leastBeside_1 : List UInt8 := dkwX4_leastBeside_1 ++ dktX4_leastBeside_2
def dkwX4_leastBeside_0 : List UInt8 := [27, 16, 12, 112, 61, 27, 16, 12, 108, 62, 17, 39, 15, 54, 4, 3, 28, 4, 100, 184, 0, 118, 54, 5]
abbrev dktX4_leastBeside_0 : List UInt8 := dkwX4_leastBeside_0 ++ dktX4_leastBeside_1
theorem dksX4_leastBeside_0 : cX4_leastBeside.data.toList.drop 0 = dktX4_leastBeside_0 := by decide +kernel
theorem dksX4_leastBeside_1 : cX4_leastBeside.data.toList.drop 24 = dktX4_leastBeside_1 := dk_seg dksX4_leastBeside_0 24 rfl rfl
theorem dksX4_leastBeside_2 : cX4_leastBeside.data.toList.drop 48 = dktX4_leastBeside_2 := dk_seg dksX4_leastBeside_1 24 rfl rfl
theorem dksX4_leastBeside_3 : cX4_leastBeside.data.toList.drop 72 = dktX4_leastBeside_3 := dk_seg dksX4_leastBeside_2 24 rfl rfl
theorem dksX4_leastBeside_4 : cX4_leastBeside.data.toList.drop 96 = dktX4_leastBeside_4 := dk_seg dksX4_leastBeside_3 24 rfl rfl
theorem dX4_leastBeside_0 : decode cX4_leastBeside 0 = .ok (.iload_n 1, 1) := dk_27 (dk_at dksX4_leastBeside_0 0 rfl rfl)
theorem dX4_leastBeside_1 : decode cX4_leastBeside 1 = .ok (.bipush 12, 2) := dk_16 12 (dk_at dksX4_leastBeside_0 1 rfl rfl)
theorem dX4_leastBeside_3 : decode cX4_leastBeside 3 = .ok (.irem, 1) := dk_112 (dk_at dksX4_leastBeside_0 3 rfl rfl)
theorem dX4_leastBeside_4 : decode cX4_leastBeside 4 = .ok (.istore_n 2, 1) := dk_61 (dk_at dksX4_leastBeside_0 4 rfl rfl)
theorem dX4_leastBeside_5 : decode cX4_leastBeside 5 = .ok (.iload_n 1, 1) := dk_27 (dk_at dksX4_leastBeside_0 5 rfl rfl)
theorem dX4_leastBeside_6 : decode cX4_leastBeside 6 = .ok (.bipush 12, 2) := dk_16 12 (dk_at dksX4_leastBeside_0 6 rfl rfl)
theorem dX4_leastBeside_8 : decode cX4_leastBeside 8 = .ok (.idiv, 1) := dk_108 (dk_at dksX4_leastBeside_0 8 rfl rfl)
theorem dX4_leastBeside_9 : decode cX4_leastBeside 9 = .ok (.istore_n 3, 1) := dk_62 (dk_at dksX4_leastBeside_0 9 rfl rfl)
theorem dX4_leastBeside_10 : decode cX4_leastBeside 10 = .ok (.sipush 9999, 3) := dk_17 39 15 (dk_at dksX4_leastBeside_0 10 rfl rfl)
theorem dX4_leastBeside_13 : decode cX4_leastBeside 13 = .ok (.istore 4, 2) := dk_54 4 (dk_at dksX4_leastBeside_0 13 rfl rfl)
theorem dX4_leastBeside_15 : decode cX4_leastBeside 15 = .ok (.iconst 0, 1) := dk_3 (dk_at dksX4_leastBeside_0 15 rfl rfl)
theorem dX4_leastBeside_16 : decode cX4_leastBeside 16 = .ok (.iload_n 2, 1) := dk_28 (dk_at dksX4_leastBeside_0 16 rfl rfl)
theorem dX4_leastBeside_17 : decode cX4_leastBeside 17 = .ok (.iconst 1, 1) := dk_4 (dk_at dksX4_leastBeside_0 17 rfl rfl)
theorem dX4_leastBeside_18 : decode cX4_leastBeside 18 = .ok (.isub, 1) := dk_100 (dk_at dksX4_leastBeside_0 18 rfl rfl)
theorem dX4_leastBeside_19 : decode cX4_leastBeside 19 = .ok (.invokestatic 118, 3) := dk_184 0 118 (dk_at dksX4_leastBeside_0 19 rfl rfl)
theorem dX4_leastBeside_22 : decode cX4_leastBeside 22 = .ok (.istore 5, 2) := dk_54 5 (dk_at dksX4_leastBeside_0 22 rfl rfl)
theorem dX4_leastBeside_24 : decode cX4_leastBeside 24 = .ok (.iload 5, 2) := dk_21 5 (dk_at dksX4_leastBeside_1 0 rfl rfl)
theorem dX4_leastBeside_26 : decode cX4_leastBeside 26 = .ok (.bipush 11, 2) := dk_16 11 (dk_at dksX4_leastBeside_1 2 rfl rfl)
theorem dX4_leastBeside_28 : decode cX4_leastBeside 28 = .ok (.iload_n 2, 1) := dk_28 (dk_at dksX4_leastBeside_1 4 rfl rfl)
theorem dX4_leastBeside_29 : decode cX4_leastBeside 29 = .ok (.iconst 1, 1) := dk_4 (dk_at dksX4_leastBeside_1 5 rfl rfl)
theorem dX4_leastBeside_30 : decode cX4_leastBeside 30 = .ok (.iadd, 1) := dk_96 (dk_at dksX4_leastBeside_1 6 rfl rfl)
theorem dX4_leastBeside_31 : decode cX4_leastBeside 31 = .ok (.invokestatic 130, 3) := dk_184 0 130 (dk_at dksX4_leastBeside_1 7 rfl rfl)
theorem dX4_leastBeside_34 : decode cX4_leastBeside 34 = .ok (.if_icmp .gt 60, 3) := dk_163 0 60 (dk_at dksX4_leastBeside_1 10 rfl rfl)
theorem dX4_leastBeside_37 : decode cX4_leastBeside 37 = .ok (.iconst 0, 1) := dk_3 (dk_at dksX4_leastBeside_1 13 rfl rfl)
theorem dX4_leastBeside_38 : decode cX4_leastBeside 38 = .ok (.iload_n 3, 1) := dk_29 (dk_at dksX4_leastBeside_1 14 rfl rfl)
theorem dX4_leastBeside_39 : decode cX4_leastBeside 39 = .ok (.iconst 1, 1) := dk_4 (dk_at dksX4_leastBeside_1 15 rfl rfl)
theorem dX4_leastBeside_40 : decode cX4_leastBeside 40 = .ok (.isub, 1) := dk_100 (dk_at dksX4_leastBeside_1 16 rfl rfl)
theorem dX4_leastBeside_41 : decode cX4_leastBeside 41 = .ok (.invokestatic 118, 3) := dk_184 0 118 (dk_at dksX4_leastBeside_1 17 rfl rfl)
theorem dX4_leastBeside_44 : decode cX4_leastBeside 44 = .ok (.istore 6, 2) := dk_54 6 (dk_at dksX4_leastBeside_1 20 rfl rfl)
theorem dX4_leastBeside_46 : decode cX4_leastBeside 46 = .ok (.iload 6, 2) := dk_21 6 (dk_at dksX4_leastBeside_1 22 rfl rfl)
theorem dX4_leastBeside_48 : decode cX4_leastBeside 48 = .ok (.bipush 8, 2) := dk_16 8 (dk_at dksX4_leastBeside_2 0 rfl rfl)
theorem dX4_leastBeside_50 : decode cX4_leastBeside 50 = .ok (.iload_n 3, 1) := dk_29 (dk_at dksX4_leastBeside_2 2 rfl rfl)
theorem dX4_leastBeside_51 : decode cX4_leastBeside 51 = .ok (.iconst 1, 1) := dk_4 (dk_at dksX4_leastBeside_2 3 rfl rfl)
theorem dX4_leastBeside_52 : decode cX4_leastBeside 52 = .ok (.iadd, 1) := dk_96 (dk_at dksX4_leastBeside_2 4 rfl rfl)
theorem dX4_leastBeside_53 : decode cX4_leastBeside 53 = .ok (.invokestatic 130, 3) := dk_184 0 130 (dk_at dksX4_leastBeside_2 5 rfl rfl)
theorem dX4_leastBeside_56 : decode cX4_leastBeside 56 = .ok (.if_icmp .gt 32, 3) := dk_163 0 32 (dk_at dksX4_leastBeside_2 8 rfl rfl)
theorem dX4_leastBeside_59 : decode cX4_leastBeside 59 = .ok (.iload 4, 2) := dk_21 4 (dk_at dksX4_leastBeside_2 11 rfl rfl)
theorem dX4_leastBeside_61 : decode cX4_leastBeside 61 = .ok (.aload_n 0, 1) := dk_42 (dk_at dksX4_leastBeside_2 13 rfl rfl)
theorem dX4_leastBeside_62 : decode cX4_leastBeside 62 = .ok (.getfield 3, 3) := dk_180 0 3 (dk_at dksX4_leastBeside_2 14 rfl rfl)
theorem dX4_leastBeside_65 : decode cX4_leastBeside 65 = .ok (.getfield 121, 3) := dk_180 0 121 (dk_at dksX4_leastBeside_2 17 rfl rfl)
theorem dX4_leastBeside_68 : decode cX4_leastBeside 68 = .ok (.bipush 12, 2) := dk_16 12 (dk_at dksX4_leastBeside_2 20 rfl rfl)
theorem dX4_leastBeside_70 : decode cX4_leastBeside 70 = .ok (.iload 6, 2) := dk_21 6 (dk_at dksX4_leastBeside_2 22 rfl rfl)
theorem dX4_leastBeside_72 : decode cX4_leastBeside 72 = .ok (.imul, 1) := dk_104 (dk_at dksX4_leastBeside_3 0 rfl rfl)
theorem dX4_leastBeside_73 : decode cX4_leastBeside 73 = .ok (.iload 5, 2) := dk_21 5 (dk_at dksX4_leastBeside_3 1 rfl rfl)
theorem dX4_leastBeside_75 : decode cX4_leastBeside 75 = .ok (.iadd, 1) := dk_96 (dk_at dksX4_leastBeside_3 3 rfl rfl)
theorem dX4_leastBeside_76 : decode cX4_leastBeside 76 = .ok (.iaload, 1) := dk_46 (dk_at dksX4_leastBeside_3 4 rfl rfl)
theorem dX4_leastBeside_77 : decode cX4_leastBeside 77 = .ok (.invokestatic 130, 3) := dk_184 0 130 (dk_at dksX4_leastBeside_3 5 rfl rfl)
theorem dX4_leastBeside_80 : decode cX4_leastBeside 80 = .ok (.istore 4, 2) := dk_54 4 (dk_at dksX4_leastBeside_3 8 rfl rfl)
theorem dX4_leastBeside_82 : decode cX4_leastBeside 82 = .ok (.iinc 6 1, 3) := dk_132 6 1 (dk_at dksX4_leastBeside_3 10 rfl rfl)
theorem dX4_leastBeside_85 : decode cX4_leastBeside 85 = .ok (.goto (-39), 3) := dk_167 255 217 (dk_at dksX4_leastBeside_3 13 rfl rfl)
theorem dX4_leastBeside_88 : decode cX4_leastBeside 88 = .ok (.iinc 5 1, 3) := dk_132 5 1 (dk_at dksX4_leastBeside_3 16 rfl rfl)
theorem dX4_leastBeside_91 : decode cX4_leastBeside 91 = .ok (.goto (-67), 3) := dk_167 255 189 (dk_at dksX4_leastBeside_3 19 rfl rfl)
theorem dX4_leastBeside_94 : decode cX4_leastBeside 94 = .ok (.iload 4, 2) := dk_21 4 (dk_at dksX4_leastBeside_3 22 rfl rfl)
theorem dX4_leastBeside_96 : decode cX4_leastBeside 96 = .ok (.ireturn, 1) := dk_172 (dk_at dksX4_leastBeside_4 0 rfl rfl)
abbrev cX4_pass : ByteArray := prog_7_method_14_code
def yX4_pass : MethodName := ⟨RX4, "pass", "()V"⟩
def dkwX4_pass_4 : List UInt8 := [181, 0, 49, 177]
abbrev dktX4_pass_4 : List UInt8 := dkwX4_pass_4 ++ []
def dkwX4_pass_3 : List UInt8 := [46, 42, 27, 182, 0, 115, 100, 184, 0, 118, 79, 132, 1, 1, 167, 255, 220, 42, 89, 180, 0, 49, 4, 96]
abbrev dktX4_pass_3 : List UInt8 := dkwX4_pass_3 ++ dktX4_pass_4
def dkwX4_pass_2 : List UInt8 := [3, 60, 27, 42, 180, 0, 3, 180, 0, 57, 162, 0, 31, 42, 180, 0, 22, 27, 3, 42, 180, 0, 22, 27]
abbrev dktX4_pass_2 : List UInt8 := dkwX4_pass_2 ++ dktX4_pass_3
def dkwX4_pass_1 : List UInt8 := [3, 60, 27, 42, 180, 0, 3, 180, 0, 60, 162, 0, 14, 42, 27, 182, 0, 112, 132, 1, 1, 167, 255, 237]
abbrev dktX4_pass_1 : List UInt8 := dkwX4_pass_1 ++ dktX4_pass_2
def dkwX4_pass_0 : List UInt8 := [3, 60, 27, 42, 180, 0, 3, 180, 0, 57, 162, 0, 14, 42, 27, 182, 0, 108, 132, 1, 1, 167, 255, 237]
abbrev dktX4_pass_0 : List UInt8 := dkwX4_pass_0 ++ dktX4_pass_1
theorem dksX4_pass_0 : cX4_pass.data.toList.drop 0 = dktX4_pass_0 := by decide +kernel
theorem dksX4_pass_1 : cX4_pass.data.toList.drop 24 = dktX4_pass_1 := dk_seg dksX4_pass_0 24 rfl rfl
theorem dksX4_pass_2 : cX4_pass.data.toList.drop 48 = dktX4_pass_2 := dk_seg dksX4_pass_1 24 rfl rfl
theorem dksX4_pass_3 : cX4_pass.data.toList.drop 72 = dktX4_pass_3 := dk_seg dksX4_pass_2 24 rfl rfl
theorem dksX4_pass_4 : cX4_pass.data.toList.drop 96 = dktX4_pass_4 := dk_seg dksX4_pass_3 24 rfl rfl
theorem dX4_pass_0 : decode cX4_pass 0 = .ok (.iconst 0, 1) := dk_3 (dk_at dksX4_pass_0 0 rfl rfl)
theorem dX4_pass_1 : decode cX4_pass 1 = .ok (.istore_n 1, 1) := dk_60 (dk_at dksX4_pass_0 1 rfl rfl)
theorem dX4_pass_2 : decode cX4_pass 2 = .ok (.iload_n 1, 1) := dk_27 (dk_at dksX4_pass_0 2 rfl rfl)
theorem dX4_pass_3 : decode cX4_pass 3 = .ok (.aload_n 0, 1) := dk_42 (dk_at dksX4_pass_0 3 rfl rfl)
theorem dX4_pass_4 : decode cX4_pass 4 = .ok (.getfield 3, 3) := dk_180 0 3 (dk_at dksX4_pass_0 4 rfl rfl)
theorem dX4_pass_7 : decode cX4_pass 7 = .ok (.getfield 57, 3) := dk_180 0 57 (dk_at dksX4_pass_0 7 rfl rfl)
theorem dX4_pass_10 : decode cX4_pass 10 = .ok (.if_icmp .ge 14, 3) := dk_162 0 14 (dk_at dksX4_pass_0 10 rfl rfl)
theorem dX4_pass_13 : decode cX4_pass 13 = .ok (.aload_n 0, 1) := dk_42 (dk_at dksX4_pass_0 13 rfl rfl)
theorem dX4_pass_14 : decode cX4_pass 14 = .ok (.iload_n 1, 1) := dk_27 (dk_at dksX4_pass_0 14 rfl rfl)
theorem dX4_pass_15 : decode cX4_pass 15 = .ok (.invokevirtual 108, 3) := dk_182 0 108 (dk_at dksX4_pass_0 15 rfl rfl)
theorem dX4_pass_18 : decode cX4_pass 18 = .ok (.iinc 1 1, 3) := dk_132 1 1 (dk_at dksX4_pass_0 18 rfl rfl)
theorem dX4_pass_21 : decode cX4_pass 21 = .ok (.goto (-19), 3) := dk_167 255 237 (dk_at dksX4_pass_0 21 rfl rfl)
theorem dX4_pass_24 : decode cX4_pass 24 = .ok (.iconst 0, 1) := dk_3 (dk_at dksX4_pass_1 0 rfl rfl)
theorem dX4_pass_25 : decode cX4_pass 25 = .ok (.istore_n 1, 1) := dk_60 (dk_at dksX4_pass_1 1 rfl rfl)
theorem dX4_pass_26 : decode cX4_pass 26 = .ok (.iload_n 1, 1) := dk_27 (dk_at dksX4_pass_1 2 rfl rfl)
theorem dX4_pass_27 : decode cX4_pass 27 = .ok (.aload_n 0, 1) := dk_42 (dk_at dksX4_pass_1 3 rfl rfl)
theorem dX4_pass_28 : decode cX4_pass 28 = .ok (.getfield 3, 3) := dk_180 0 3 (dk_at dksX4_pass_1 4 rfl rfl)
theorem dX4_pass_31 : decode cX4_pass 31 = .ok (.getfield 60, 3) := dk_180 0 60 (dk_at dksX4_pass_1 7 rfl rfl)
theorem dX4_pass_34 : decode cX4_pass 34 = .ok (.if_icmp .ge 14, 3) := dk_162 0 14 (dk_at dksX4_pass_1 10 rfl rfl)
theorem dX4_pass_37 : decode cX4_pass 37 = .ok (.aload_n 0, 1) := dk_42 (dk_at dksX4_pass_1 13 rfl rfl)
theorem dX4_pass_38 : decode cX4_pass 38 = .ok (.iload_n 1, 1) := dk_27 (dk_at dksX4_pass_1 14 rfl rfl)
theorem dX4_pass_39 : decode cX4_pass 39 = .ok (.invokevirtual 112, 3) := dk_182 0 112 (dk_at dksX4_pass_1 15 rfl rfl)
theorem dX4_pass_42 : decode cX4_pass 42 = .ok (.iinc 1 1, 3) := dk_132 1 1 (dk_at dksX4_pass_1 18 rfl rfl)
theorem dX4_pass_45 : decode cX4_pass 45 = .ok (.goto (-19), 3) := dk_167 255 237 (dk_at dksX4_pass_1 21 rfl rfl)
theorem dX4_pass_48 : decode cX4_pass 48 = .ok (.iconst 0, 1) := dk_3 (dk_at dksX4_pass_2 0 rfl rfl)
theorem dX4_pass_49 : decode cX4_pass 49 = .ok (.istore_n 1, 1) := dk_60 (dk_at dksX4_pass_2 1 rfl rfl)
theorem dX4_pass_50 : decode cX4_pass 50 = .ok (.iload_n 1, 1) := dk_27 (dk_at dksX4_pass_2 2 rfl rfl)
theorem dX4_pass_51 : decode cX4_pass 51 = .ok (.aload_n 0, 1) := dk_42 (dk_at dksX4_pass_2 3 rfl rfl)
theorem dX4_pass_52 : decode cX4_pass 52 = .ok (.getfield 3, 3) := dk_180 0 3 (dk_at dksX4_pass_2 4 rfl rfl)
theorem dX4_pass_55 : decode cX4_pass 55 = .ok (.getfield 57, 3) := dk_180 0 57 (dk_at dksX4_pass_2 7 rfl rfl)
theorem dX4_pass_58 : decode cX4_pass 58 = .ok (.if_icmp .ge 31, 3) := dk_162 0 31 (dk_at dksX4_pass_2 10 rfl rfl)
theorem dX4_pass_61 : decode cX4_pass 61 = .ok (.aload_n 0, 1) := dk_42 (dk_at dksX4_pass_2 13 rfl rfl)
theorem dX4_pass_62 : decode cX4_pass 62 = .ok (.getfield 22, 3) := dk_180 0 22 (dk_at dksX4_pass_2 14 rfl rfl)
theorem dX4_pass_65 : decode cX4_pass 65 = .ok (.iload_n 1, 1) := dk_27 (dk_at dksX4_pass_2 17 rfl rfl)
theorem dX4_pass_66 : decode cX4_pass 66 = .ok (.iconst 0, 1) := dk_3 (dk_at dksX4_pass_2 18 rfl rfl)
theorem dX4_pass_67 : decode cX4_pass 67 = .ok (.aload_n 0, 1) := dk_42 (dk_at dksX4_pass_2 19 rfl rfl)
theorem dX4_pass_68 : decode cX4_pass 68 = .ok (.getfield 22, 3) := dk_180 0 22 (dk_at dksX4_pass_2 20 rfl rfl)
theorem dX4_pass_71 : decode cX4_pass 71 = .ok (.iload_n 1, 1) := dk_27 (dk_at dksX4_pass_2 23 rfl rfl)
theorem dX4_pass_72 : decode cX4_pass 72 = .ok (.iaload, 1) := dk_46 (dk_at dksX4_pass_3 0 rfl rfl)
theorem dX4_pass_73 : decode cX4_pass 73 = .ok (.aload_n 0, 1) := dk_42 (dk_at dksX4_pass_3 1 rfl rfl)
theorem dX4_pass_74 : decode cX4_pass 74 = .ok (.iload_n 1, 1) := dk_27 (dk_at dksX4_pass_3 2 rfl rfl)
theorem dX4_pass_75 : decode cX4_pass 75 = .ok (.invokevirtual 115, 3) := dk_182 0 115 (dk_at dksX4_pass_3 3 rfl rfl)
theorem dX4_pass_78 : decode cX4_pass 78 = .ok (.isub, 1) := dk_100 (dk_at dksX4_pass_3 6 rfl rfl)
theorem dX4_pass_79 : decode cX4_pass 79 = .ok (.invokestatic 118, 3) := dk_184 0 118 (dk_at dksX4_pass_3 7 rfl rfl)
theorem dX4_pass_82 : decode cX4_pass 82 = .ok (.iastore, 1) := dk_79 (dk_at dksX4_pass_3 10 rfl rfl)
theorem dX4_pass_83 : decode cX4_pass 83 = .ok (.iinc 1 1, 3) := dk_132 1 1 (dk_at dksX4_pass_3 11 rfl rfl)
theorem dX4_pass_86 : decode cX4_pass 86 = .ok (.goto (-36), 3) := dk_167 255 220 (dk_at dksX4_pass_3 14 rfl rfl)
theorem dX4_pass_89 : decode cX4_pass 89 = .ok (.aload_n 0, 1) := dk_42 (dk_at dksX4_pass_3 17 rfl rfl)
theorem dX4_pass_90 : decode cX4_pass 90 = .ok (.dup, 1) := dk_89 (dk_at dksX4_pass_3 18 rfl rfl)
theorem dX4_pass_91 : decode cX4_pass 91 = .ok (.getfield 49, 3) := dk_180 0 49 (dk_at dksX4_pass_3 19 rfl rfl)
theorem dX4_pass_94 : decode cX4_pass 94 = .ok (.iconst 1, 1) := dk_4 (dk_at dksX4_pass_3 22 rfl rfl)
theorem dX4_pass_95 : decode cX4_pass 95 = .ok (.iadd, 1) := dk_96 (dk_at dksX4_pass_3 23 rfl rfl)
theorem dX4_pass_96 : decode cX4_pass 96 = .ok (.putfield 49, 3) := dk_181 0 49 (dk_at dksX4_pass_4 0 rfl rfl)
theorem dX4_pass_99 : decode cX4_pass 99 = .ok (.return_, 1) := dk_177 (dk_at dksX4_pass_4 3 rfl rfl)
abbrev cX4_act : ByteArray := prog_7_method_10_code
def yX4_act : MethodName := ⟨RX4, "act", "(I)V"⟩
def dkwX4_act_3 : List UInt8 := [182, 0, 85, 154, 0, 13, 42, 180, 0, 34, 27, 92, 46, 4, 96, 79, 177]
abbrev dktX4_act_3 : List UInt8 := dkwX4_act_3 ++ []
def dkwX4_act_2 : List UInt8 := [4, 96, 42, 180, 0, 31, 16, 24, 27, 104, 42, 180, 0, 28, 27, 46, 184, 0, 43, 42, 27, 28]
abbrev dktX4_act_2 : List UInt8 := dkwX4_act_2 ++ dktX4_act_3
def dkwX4_act_1 : List UInt8 := [16, 24, 27, 104, 46, 61, 42, 180, 0, 28, 27, 92, 46, 4, 100, 79, 42, 180, 0, 31, 16, 24, 27, 104]
abbrev dktX4_act_1 : List UInt8 := dkwX4_act_1 ++ dktX4_act_2
def dkwX4_act_0 : List UInt8 := [42, 180, 0, 22, 27, 46, 153, 0, 12, 42, 180, 0, 28, 27, 46, 154, 0, 4, 177, 42, 180, 0, 31]
abbrev dktX4_act_0 : List UInt8 := dkwX4_act_0 ++ dktX4_act_1
theorem dksX4_act_0 : cX4_act.data.toList.drop 0 = dktX4_act_0 := by decide +kernel
theorem dksX4_act_1 : cX4_act.data.toList.drop 23 = dktX4_act_1 := dk_seg dksX4_act_0 23 rfl rfl
theorem dksX4_act_2 : cX4_act.data.toList.drop 47 = dktX4_act_2 := dk_seg dksX4_act_1 24 rfl rfl
theorem dksX4_act_3 : cX4_act.data.toList.drop 69 = dktX4_act_3 := dk_seg dksX4_act_2 22 rfl rfl
theorem dX4_act_0 : decode cX4_act 0 = .ok (.aload_n 0, 1) := dk_42 (dk_at dksX4_act_0 0 rfl rfl)
theorem dX4_act_1 : decode cX4_act 1 = .ok (.getfield 22, 3) := dk_180 0 22 (dk_at dksX4_act_0 1 rfl rfl)
theorem dX4_act_4 : decode cX4_act 4 = .ok (.iload_n 1, 1) := dk_27 (dk_at dksX4_act_0 4 rfl rfl)
theorem dX4_act_5 : decode cX4_act 5 = .ok (.iaload, 1) := dk_46 (dk_at dksX4_act_0 5 rfl rfl)
theorem dX4_act_6 : decode cX4_act 6 = .ok (.ifCond .eq 12, 3) := dk_153 0 12 (dk_at dksX4_act_0 6 rfl rfl)
theorem dX4_act_9 : decode cX4_act 9 = .ok (.aload_n 0, 1) := dk_42 (dk_at dksX4_act_0 9 rfl rfl)
theorem dX4_act_10 : decode cX4_act 10 = .ok (.getfield 28, 3) := dk_180 0 28 (dk_at dksX4_act_0 10 rfl rfl)
theorem dX4_act_13 : decode cX4_act 13 = .ok (.iload_n 1, 1) := dk_27 (dk_at dksX4_act_0 13 rfl rfl)
theorem dX4_act_14 : decode cX4_act 14 = .ok (.iaload, 1) := dk_46 (dk_at dksX4_act_0 14 rfl rfl)
theorem dX4_act_15 : decode cX4_act 15 = .ok (.ifCond .ne 4, 3) := dk_154 0 4 (dk_at dksX4_act_0 15 rfl rfl)
theorem dX4_act_18 : decode cX4_act 18 = .ok (.return_, 1) := dk_177 (dk_at dksX4_act_0 18 rfl rfl)
theorem dX4_act_19 : decode cX4_act 19 = .ok (.aload_n 0, 1) := dk_42 (dk_at dksX4_act_0 19 rfl rfl)
theorem dX4_act_20 : decode cX4_act 20 = .ok (.getfield 31, 3) := dk_180 0 31 (dk_at dksX4_act_0 20 rfl rfl)
theorem dX4_act_23 : decode cX4_act 23 = .ok (.bipush 24, 2) := dk_16 24 (dk_at dksX4_act_1 0 rfl rfl)
theorem dX4_act_25 : decode cX4_act 25 = .ok (.iload_n 1, 1) := dk_27 (dk_at dksX4_act_1 2 rfl rfl)
theorem dX4_act_26 : decode cX4_act 26 = .ok (.imul, 1) := dk_104 (dk_at dksX4_act_1 3 rfl rfl)
theorem dX4_act_27 : decode cX4_act 27 = .ok (.iaload, 1) := dk_46 (dk_at dksX4_act_1 4 rfl rfl)
theorem dX4_act_28 : decode cX4_act 28 = .ok (.istore_n 2, 1) := dk_61 (dk_at dksX4_act_1 5 rfl rfl)
theorem dX4_act_29 : decode cX4_act 29 = .ok (.aload_n 0, 1) := dk_42 (dk_at dksX4_act_1 6 rfl rfl)
theorem dX4_act_30 : decode cX4_act 30 = .ok (.getfield 28, 3) := dk_180 0 28 (dk_at dksX4_act_1 7 rfl rfl)
theorem dX4_act_33 : decode cX4_act 33 = .ok (.iload_n 1, 1) := dk_27 (dk_at dksX4_act_1 10 rfl rfl)
theorem dX4_act_34 : decode cX4_act 34 = .ok (.dup2, 1) := dk_92 (dk_at dksX4_act_1 11 rfl rfl)
theorem dX4_act_35 : decode cX4_act 35 = .ok (.iaload, 1) := dk_46 (dk_at dksX4_act_1 12 rfl rfl)
theorem dX4_act_36 : decode cX4_act 36 = .ok (.iconst 1, 1) := dk_4 (dk_at dksX4_act_1 13 rfl rfl)
theorem dX4_act_37 : decode cX4_act 37 = .ok (.isub, 1) := dk_100 (dk_at dksX4_act_1 14 rfl rfl)
theorem dX4_act_38 : decode cX4_act 38 = .ok (.iastore, 1) := dk_79 (dk_at dksX4_act_1 15 rfl rfl)
theorem dX4_act_39 : decode cX4_act 39 = .ok (.aload_n 0, 1) := dk_42 (dk_at dksX4_act_1 16 rfl rfl)
theorem dX4_act_40 : decode cX4_act 40 = .ok (.getfield 31, 3) := dk_180 0 31 (dk_at dksX4_act_1 17 rfl rfl)
theorem dX4_act_43 : decode cX4_act 43 = .ok (.bipush 24, 2) := dk_16 24 (dk_at dksX4_act_1 20 rfl rfl)
theorem dX4_act_45 : decode cX4_act 45 = .ok (.iload_n 1, 1) := dk_27 (dk_at dksX4_act_1 22 rfl rfl)
theorem dX4_act_46 : decode cX4_act 46 = .ok (.imul, 1) := dk_104 (dk_at dksX4_act_1 23 rfl rfl)
theorem dX4_act_47 : decode cX4_act 47 = .ok (.iconst 1, 1) := dk_4 (dk_at dksX4_act_2 0 rfl rfl)
theorem dX4_act_48 : decode cX4_act 48 = .ok (.iadd, 1) := dk_96 (dk_at dksX4_act_2 1 rfl rfl)
theorem dX4_act_49 : decode cX4_act 49 = .ok (.aload_n 0, 1) := dk_42 (dk_at dksX4_act_2 2 rfl rfl)
theorem dX4_act_50 : decode cX4_act 50 = .ok (.getfield 31, 3) := dk_180 0 31 (dk_at dksX4_act_2 3 rfl rfl)
theorem dX4_act_53 : decode cX4_act 53 = .ok (.bipush 24, 2) := dk_16 24 (dk_at dksX4_act_2 6 rfl rfl)
theorem dX4_act_55 : decode cX4_act 55 = .ok (.iload_n 1, 1) := dk_27 (dk_at dksX4_act_2 8 rfl rfl)
theorem dX4_act_56 : decode cX4_act 56 = .ok (.imul, 1) := dk_104 (dk_at dksX4_act_2 9 rfl rfl)
theorem dX4_act_57 : decode cX4_act 57 = .ok (.aload_n 0, 1) := dk_42 (dk_at dksX4_act_2 10 rfl rfl)
theorem dX4_act_58 : decode cX4_act 58 = .ok (.getfield 28, 3) := dk_180 0 28 (dk_at dksX4_act_2 11 rfl rfl)
theorem dX4_act_61 : decode cX4_act 61 = .ok (.iload_n 1, 1) := dk_27 (dk_at dksX4_act_2 14 rfl rfl)
theorem dX4_act_62 : decode cX4_act 62 = .ok (.iaload, 1) := dk_46 (dk_at dksX4_act_2 15 rfl rfl)
theorem dX4_act_63 : decode cX4_act 63 = .ok (.invokestatic 43, 3) := dk_184 0 43 (dk_at dksX4_act_2 16 rfl rfl)
theorem dX4_act_66 : decode cX4_act 66 = .ok (.aload_n 0, 1) := dk_42 (dk_at dksX4_act_2 19 rfl rfl)
theorem dX4_act_67 : decode cX4_act 67 = .ok (.iload_n 1, 1) := dk_27 (dk_at dksX4_act_2 20 rfl rfl)
theorem dX4_act_68 : decode cX4_act 68 = .ok (.iload_n 2, 1) := dk_28 (dk_at dksX4_act_2 21 rfl rfl)
theorem dX4_act_69 : decode cX4_act 69 = .ok (.invokevirtual 85, 3) := dk_182 0 85 (dk_at dksX4_act_3 0 rfl rfl)
theorem dX4_act_72 : decode cX4_act 72 = .ok (.ifCond .ne 13, 3) := dk_154 0 13 (dk_at dksX4_act_3 3 rfl rfl)
theorem dX4_act_75 : decode cX4_act 75 = .ok (.aload_n 0, 1) := dk_42 (dk_at dksX4_act_3 6 rfl rfl)
theorem dX4_act_76 : decode cX4_act 76 = .ok (.getfield 34, 3) := dk_180 0 34 (dk_at dksX4_act_3 7 rfl rfl)
theorem dX4_act_79 : decode cX4_act 79 = .ok (.iload_n 1, 1) := dk_27 (dk_at dksX4_act_3 10 rfl rfl)
theorem dX4_act_80 : decode cX4_act 80 = .ok (.dup2, 1) := dk_92 (dk_at dksX4_act_3 11 rfl rfl)
theorem dX4_act_81 : decode cX4_act 81 = .ok (.iaload, 1) := dk_46 (dk_at dksX4_act_3 12 rfl rfl)
theorem dX4_act_82 : decode cX4_act 82 = .ok (.iconst 1, 1) := dk_4 (dk_at dksX4_act_3 13 rfl rfl)
theorem dX4_act_83 : decode cX4_act 83 = .ok (.iadd, 1) := dk_96 (dk_at dksX4_act_3 14 rfl rfl)
theorem dX4_act_84 : decode cX4_act 84 = .ok (.iastore, 1) := dk_79 (dk_at dksX4_act_3 15 rfl rfl)
theorem dX4_act_85 : decode cX4_act 85 = .ok (.return_, 1) := dk_177 (dk_at dksX4_act_3 16 rfl rfl)
abbrev cX4_carriesOut : ByteArray := prog_7_method_9_code
def yX4_carriesOut : MethodName := ⟨RX4, "carriesOut", "(II)Z"⟩
def dkwX4_carriesOut_2 : List UInt8 := [167, 0, 8, 29, 28, 184, 0, 70, 182, 0, 81, 172]
abbrev dktX4_carriesOut_2 : List UInt8 := dkwX4_carriesOut_2 ++ []
def dkwX4_carriesOut_1 : List UInt8 := [172, 28, 6, 164, 0, 12, 42, 27, 29, 182, 0, 77, 167, 0, 23, 42, 27, 29, 29, 2, 160, 0, 7, 2]
abbrev dktX4_carriesOut_1 : List UInt8 := dkwX4_carriesOut_1 ++ dktX4_carriesOut_2
def dkwX4_carriesOut_0 : List UInt8 := [42, 180, 0, 19, 27, 46, 28, 7, 112, 184, 0, 70, 62, 28, 16, 7, 164, 0, 9, 42, 29, 182, 0, 74]
abbrev dktX4_carriesOut_0 : List UInt8 := dkwX4_carriesOut_0 ++ dktX4_carriesOut_1
theorem dksX4_carriesOut_0 : cX4_carriesOut.data.toList.drop 0 = dktX4_carriesOut_0 := by decide +kernel
theorem dksX4_carriesOut_1 : cX4_carriesOut.data.toList.drop 24 = dktX4_carriesOut_1 := dk_seg dksX4_carriesOut_0 24 rfl rfl
theorem dksX4_carriesOut_2 : cX4_carriesOut.data.toList.drop 48 = dktX4_carriesOut_2 := dk_seg dksX4_carriesOut_1 24 rfl rfl
theorem dX4_carriesOut_0 : decode cX4_carriesOut 0 = .ok (.aload_n 0, 1) := dk_42 (dk_at dksX4_carriesOut_0 0 rfl rfl)
theorem dX4_carriesOut_1 : decode cX4_carriesOut 1 = .ok (.getfield 19, 3) := dk_180 0 19 (dk_at dksX4_carriesOut_0 1 rfl rfl)
theorem dX4_carriesOut_4 : decode cX4_carriesOut 4 = .ok (.iload_n 1, 1) := dk_27 (dk_at dksX4_carriesOut_0 4 rfl rfl)
theorem dX4_carriesOut_5 : decode cX4_carriesOut 5 = .ok (.iaload, 1) := dk_46 (dk_at dksX4_carriesOut_0 5 rfl rfl)
theorem dX4_carriesOut_6 : decode cX4_carriesOut 6 = .ok (.iload_n 2, 1) := dk_28 (dk_at dksX4_carriesOut_0 6 rfl rfl)
theorem dX4_carriesOut_7 : decode cX4_carriesOut 7 = .ok (.iconst 4, 1) := dk_7 (dk_at dksX4_carriesOut_0 7 rfl rfl)
theorem dX4_carriesOut_8 : decode cX4_carriesOut 8 = .ok (.irem, 1) := dk_112 (dk_at dksX4_carriesOut_0 8 rfl rfl)
theorem dX4_carriesOut_9 : decode cX4_carriesOut 9 = .ok (.invokestatic 70, 3) := dk_184 0 70 (dk_at dksX4_carriesOut_0 9 rfl rfl)
theorem dX4_carriesOut_12 : decode cX4_carriesOut 12 = .ok (.istore_n 3, 1) := dk_62 (dk_at dksX4_carriesOut_0 12 rfl rfl)
theorem dX4_carriesOut_13 : decode cX4_carriesOut 13 = .ok (.iload_n 2, 1) := dk_28 (dk_at dksX4_carriesOut_0 13 rfl rfl)
theorem dX4_carriesOut_14 : decode cX4_carriesOut 14 = .ok (.bipush 7, 2) := dk_16 7 (dk_at dksX4_carriesOut_0 14 rfl rfl)
theorem dX4_carriesOut_16 : decode cX4_carriesOut 16 = .ok (.if_icmp .le 9, 3) := dk_164 0 9 (dk_at dksX4_carriesOut_0 16 rfl rfl)
theorem dX4_carriesOut_19 : decode cX4_carriesOut 19 = .ok (.aload_n 0, 1) := dk_42 (dk_at dksX4_carriesOut_0 19 rfl rfl)
theorem dX4_carriesOut_20 : decode cX4_carriesOut 20 = .ok (.iload_n 3, 1) := dk_29 (dk_at dksX4_carriesOut_0 20 rfl rfl)
theorem dX4_carriesOut_21 : decode cX4_carriesOut 21 = .ok (.invokevirtual 74, 3) := dk_182 0 74 (dk_at dksX4_carriesOut_0 21 rfl rfl)
theorem dX4_carriesOut_24 : decode cX4_carriesOut 24 = .ok (.ireturn, 1) := dk_172 (dk_at dksX4_carriesOut_1 0 rfl rfl)
theorem dX4_carriesOut_25 : decode cX4_carriesOut 25 = .ok (.iload_n 2, 1) := dk_28 (dk_at dksX4_carriesOut_1 1 rfl rfl)
theorem dX4_carriesOut_26 : decode cX4_carriesOut 26 = .ok (.iconst 3, 1) := dk_6 (dk_at dksX4_carriesOut_1 2 rfl rfl)
theorem dX4_carriesOut_27 : decode cX4_carriesOut 27 = .ok (.if_icmp .le 12, 3) := dk_164 0 12 (dk_at dksX4_carriesOut_1 3 rfl rfl)
theorem dX4_carriesOut_30 : decode cX4_carriesOut 30 = .ok (.aload_n 0, 1) := dk_42 (dk_at dksX4_carriesOut_1 6 rfl rfl)
theorem dX4_carriesOut_31 : decode cX4_carriesOut 31 = .ok (.iload_n 1, 1) := dk_27 (dk_at dksX4_carriesOut_1 7 rfl rfl)
theorem dX4_carriesOut_32 : decode cX4_carriesOut 32 = .ok (.iload_n 3, 1) := dk_29 (dk_at dksX4_carriesOut_1 8 rfl rfl)
theorem dX4_carriesOut_33 : decode cX4_carriesOut 33 = .ok (.invokevirtual 77, 3) := dk_182 0 77 (dk_at dksX4_carriesOut_1 9 rfl rfl)
theorem dX4_carriesOut_36 : decode cX4_carriesOut 36 = .ok (.goto 23, 3) := dk_167 0 23 (dk_at dksX4_carriesOut_1 12 rfl rfl)
theorem dX4_carriesOut_39 : decode cX4_carriesOut 39 = .ok (.aload_n 0, 1) := dk_42 (dk_at dksX4_carriesOut_1 15 rfl rfl)
theorem dX4_carriesOut_40 : decode cX4_carriesOut 40 = .ok (.iload_n 1, 1) := dk_27 (dk_at dksX4_carriesOut_1 16 rfl rfl)
theorem dX4_carriesOut_41 : decode cX4_carriesOut 41 = .ok (.iload_n 3, 1) := dk_29 (dk_at dksX4_carriesOut_1 17 rfl rfl)
theorem dX4_carriesOut_42 : decode cX4_carriesOut 42 = .ok (.iload_n 3, 1) := dk_29 (dk_at dksX4_carriesOut_1 18 rfl rfl)
theorem dX4_carriesOut_43 : decode cX4_carriesOut 43 = .ok (.iconst (-1), 1) := dk_2 (dk_at dksX4_carriesOut_1 19 rfl rfl)
theorem dX4_carriesOut_44 : decode cX4_carriesOut 44 = .ok (.if_icmp .ne 7, 3) := dk_160 0 7 (dk_at dksX4_carriesOut_1 20 rfl rfl)
theorem dX4_carriesOut_47 : decode cX4_carriesOut 47 = .ok (.iconst (-1), 1) := dk_2 (dk_at dksX4_carriesOut_1 23 rfl rfl)
theorem dX4_carriesOut_48 : decode cX4_carriesOut 48 = .ok (.goto 8, 3) := dk_167 0 8 (dk_at dksX4_carriesOut_2 0 rfl rfl)
theorem dX4_carriesOut_51 : decode cX4_carriesOut 51 = .ok (.iload_n 3, 1) := dk_29 (dk_at dksX4_carriesOut_2 3 rfl rfl)
theorem dX4_carriesOut_52 : decode cX4_carriesOut 52 = .ok (.iload_n 2, 1) := dk_28 (dk_at dksX4_carriesOut_2 4 rfl rfl)
theorem dX4_carriesOut_53 : decode cX4_carriesOut 53 = .ok (.invokestatic 70, 3) := dk_184 0 70 (dk_at dksX4_carriesOut_2 5 rfl rfl)
theorem dX4_carriesOut_56 : decode cX4_carriesOut 56 = .ok (.invokevirtual 81, 3) := dk_182 0 81 (dk_at dksX4_carriesOut_2 8 rfl rfl)
theorem dX4_carriesOut_59 : decode cX4_carriesOut 59 = .ok (.ireturn, 1) := dk_172 (dk_at dksX4_carriesOut_2 11 rfl rfl)
abbrev cX4_pulls : ByteArray := prog_7_method_8_code
def yX4_pulls : MethodName := ⟨RX4, "pulls", "(I)Z"⟩
def dkwX4_pulls_1 : List UInt8 := [92, 46, 4, 100, 79, 4, 172]
abbrev dktX4_pulls_1 : List UInt8 := dkwX4_pulls_1 ++ []
def dkwX4_pulls_0 : List UInt8 := [42, 27, 182, 0, 63, 153, 0, 12, 42, 180, 0, 15, 27, 46, 154, 0, 5, 3, 172, 42, 180, 0, 15, 27]
abbrev dktX4_pulls_0 : List UInt8 := dkwX4_pulls_0 ++ dktX4_pulls_1
theorem dksX4_pulls_0 : cX4_pulls.data.toList.drop 0 = dktX4_pulls_0 := by decide +kernel
theorem dksX4_pulls_1 : cX4_pulls.data.toList.drop 24 = dktX4_pulls_1 := dk_seg dksX4_pulls_0 24 rfl rfl
theorem dX4_pulls_0 : decode cX4_pulls 0 = .ok (.aload_n 0, 1) := dk_42 (dk_at dksX4_pulls_0 0 rfl rfl)
theorem dX4_pulls_1 : decode cX4_pulls 1 = .ok (.iload_n 1, 1) := dk_27 (dk_at dksX4_pulls_0 1 rfl rfl)
theorem dX4_pulls_2 : decode cX4_pulls 2 = .ok (.invokevirtual 63, 3) := dk_182 0 63 (dk_at dksX4_pulls_0 2 rfl rfl)
theorem dX4_pulls_5 : decode cX4_pulls 5 = .ok (.ifCond .eq 12, 3) := dk_153 0 12 (dk_at dksX4_pulls_0 5 rfl rfl)
theorem dX4_pulls_8 : decode cX4_pulls 8 = .ok (.aload_n 0, 1) := dk_42 (dk_at dksX4_pulls_0 8 rfl rfl)
theorem dX4_pulls_9 : decode cX4_pulls 9 = .ok (.getfield 15, 3) := dk_180 0 15 (dk_at dksX4_pulls_0 9 rfl rfl)
theorem dX4_pulls_12 : decode cX4_pulls 12 = .ok (.iload_n 1, 1) := dk_27 (dk_at dksX4_pulls_0 12 rfl rfl)
theorem dX4_pulls_13 : decode cX4_pulls 13 = .ok (.iaload, 1) := dk_46 (dk_at dksX4_pulls_0 13 rfl rfl)
theorem dX4_pulls_14 : decode cX4_pulls 14 = .ok (.ifCond .ne 5, 3) := dk_154 0 5 (dk_at dksX4_pulls_0 14 rfl rfl)
theorem dX4_pulls_17 : decode cX4_pulls 17 = .ok (.iconst 0, 1) := dk_3 (dk_at dksX4_pulls_0 17 rfl rfl)
theorem dX4_pulls_18 : decode cX4_pulls 18 = .ok (.ireturn, 1) := dk_172 (dk_at dksX4_pulls_0 18 rfl rfl)
theorem dX4_pulls_19 : decode cX4_pulls 19 = .ok (.aload_n 0, 1) := dk_42 (dk_at dksX4_pulls_0 19 rfl rfl)
theorem dX4_pulls_20 : decode cX4_pulls 20 = .ok (.getfield 15, 3) := dk_180 0 15 (dk_at dksX4_pulls_0 20 rfl rfl)
theorem dX4_pulls_23 : decode cX4_pulls 23 = .ok (.iload_n 1, 1) := dk_27 (dk_at dksX4_pulls_0 23 rfl rfl)
theorem dX4_pulls_24 : decode cX4_pulls 24 = .ok (.dup2, 1) := dk_92 (dk_at dksX4_pulls_1 0 rfl rfl)
theorem dX4_pulls_25 : decode cX4_pulls 25 = .ok (.iaload, 1) := dk_46 (dk_at dksX4_pulls_1 1 rfl rfl)
theorem dX4_pulls_26 : decode cX4_pulls 26 = .ok (.iconst 1, 1) := dk_4 (dk_at dksX4_pulls_1 2 rfl rfl)
theorem dX4_pulls_27 : decode cX4_pulls 27 = .ok (.isub, 1) := dk_100 (dk_at dksX4_pulls_1 3 rfl rfl)
theorem dX4_pulls_28 : decode cX4_pulls 28 = .ok (.iastore, 1) := dk_79 (dk_at dksX4_pulls_1 4 rfl rfl)
theorem dX4_pulls_29 : decode cX4_pulls 29 = .ok (.iconst 1, 1) := dk_4 (dk_at dksX4_pulls_1 5 rfl rfl)
theorem dX4_pulls_30 : decode cX4_pulls 30 = .ok (.ireturn, 1) := dk_172 (dk_at dksX4_pulls_1 6 rfl rfl)
abbrev cX4_isLane : ByteArray := prog_7_method_5_code
def yX4_isLane : MethodName := ⟨RX4, "isLane", "(I)Z"⟩
def dkwX4_isLane_0 : List UInt8 := [27, 2, 159, 0, 17, 42, 180, 0, 15, 27, 46, 2, 159, 0, 7, 4, 167, 0, 4, 3, 172]
abbrev dktX4_isLane_0 : List UInt8 := dkwX4_isLane_0 ++ []
theorem dksX4_isLane_0 : cX4_isLane.data.toList.drop 0 = dktX4_isLane_0 := by decide +kernel
theorem dX4_isLane_0 : decode cX4_isLane 0 = .ok (.iload_n 1, 1) := dk_27 (dk_at dksX4_isLane_0 0 rfl rfl)
theorem dX4_isLane_1 : decode cX4_isLane 1 = .ok (.iconst (-1), 1) := dk_2 (dk_at dksX4_isLane_0 1 rfl rfl)
theorem dX4_isLane_2 : decode cX4_isLane 2 = .ok (.if_icmp .eq 17, 3) := dk_159 0 17 (dk_at dksX4_isLane_0 2 rfl rfl)
theorem dX4_isLane_5 : decode cX4_isLane 5 = .ok (.aload_n 0, 1) := dk_42 (dk_at dksX4_isLane_0 5 rfl rfl)
theorem dX4_isLane_6 : decode cX4_isLane 6 = .ok (.getfield 15, 3) := dk_180 0 15 (dk_at dksX4_isLane_0 6 rfl rfl)
theorem dX4_isLane_9 : decode cX4_isLane 9 = .ok (.iload_n 1, 1) := dk_27 (dk_at dksX4_isLane_0 9 rfl rfl)
theorem dX4_isLane_10 : decode cX4_isLane 10 = .ok (.iaload, 1) := dk_46 (dk_at dksX4_isLane_0 10 rfl rfl)
theorem dX4_isLane_11 : decode cX4_isLane 11 = .ok (.iconst (-1), 1) := dk_2 (dk_at dksX4_isLane_0 11 rfl rfl)
theorem dX4_isLane_12 : decode cX4_isLane 12 = .ok (.if_icmp .eq 7, 3) := dk_159 0 7 (dk_at dksX4_isLane_0 12 rfl rfl)
theorem dX4_isLane_15 : decode cX4_isLane 15 = .ok (.iconst 1, 1) := dk_4 (dk_at dksX4_isLane_0 15 rfl rfl)
theorem dX4_isLane_16 : decode cX4_isLane 16 = .ok (.goto 4, 3) := dk_167 0 4 (dk_at dksX4_isLane_0 16 rfl rfl)
theorem dX4_isLane_19 : decode cX4_isLane 19 = .ok (.iconst 0, 1) := dk_3 (dk_at dksX4_isLane_0 19 rfl rfl)
theorem dX4_isLane_20 : decode cX4_isLane 20 = .ok (.ireturn, 1) := dk_172 (dk_at dksX4_isLane_0 20 rfl rfl)
abbrev cX4_raises : ByteArray := prog_7_method_7_code
def yX4_raises : MethodName := ⟨RX4, "raises", "(II)Z"⟩
def dkwX4_raises_2 : List UInt8 := [4, 172]
abbrev dktX4_raises_2 : List UInt8 := dkwX4_raises_2 ++ []
def dkwX4_raises_1 : List UInt8 := [6, 159, 0, 11, 42, 28, 182, 0, 67, 153, 0, 5, 3, 172, 42, 180, 0, 15, 28, 92, 46, 4, 96, 79]
abbrev dktX4_raises_1 : List UInt8 := dkwX4_raises_1 ++ dktX4_raises_2
def dkwX4_raises_0 : List UInt8 := [42, 180, 0, 22, 27, 46, 6, 161, 0, 29, 42, 28, 182, 0, 63, 153, 0, 21, 42, 180, 0, 15, 28, 46]
abbrev dktX4_raises_0 : List UInt8 := dkwX4_raises_0 ++ dktX4_raises_1
theorem dksX4_raises_0 : cX4_raises.data.toList.drop 0 = dktX4_raises_0 := by decide +kernel
theorem dksX4_raises_1 : cX4_raises.data.toList.drop 24 = dktX4_raises_1 := dk_seg dksX4_raises_0 24 rfl rfl
theorem dksX4_raises_2 : cX4_raises.data.toList.drop 48 = dktX4_raises_2 := dk_seg dksX4_raises_1 24 rfl rfl
theorem dX4_raises_0 : decode cX4_raises 0 = .ok (.aload_n 0, 1) := dk_42 (dk_at dksX4_raises_0 0 rfl rfl)
theorem dX4_raises_1 : decode cX4_raises 1 = .ok (.getfield 22, 3) := dk_180 0 22 (dk_at dksX4_raises_0 1 rfl rfl)
theorem dX4_raises_4 : decode cX4_raises 4 = .ok (.iload_n 1, 1) := dk_27 (dk_at dksX4_raises_0 4 rfl rfl)
theorem dX4_raises_5 : decode cX4_raises 5 = .ok (.iaload, 1) := dk_46 (dk_at dksX4_raises_0 5 rfl rfl)
theorem dX4_raises_6 : decode cX4_raises 6 = .ok (.iconst 3, 1) := dk_6 (dk_at dksX4_raises_0 6 rfl rfl)
theorem dX4_raises_7 : decode cX4_raises 7 = .ok (.if_icmp .lt 29, 3) := dk_161 0 29 (dk_at dksX4_raises_0 7 rfl rfl)
theorem dX4_raises_10 : decode cX4_raises 10 = .ok (.aload_n 0, 1) := dk_42 (dk_at dksX4_raises_0 10 rfl rfl)
theorem dX4_raises_11 : decode cX4_raises 11 = .ok (.iload_n 2, 1) := dk_28 (dk_at dksX4_raises_0 11 rfl rfl)
theorem dX4_raises_12 : decode cX4_raises 12 = .ok (.invokevirtual 63, 3) := dk_182 0 63 (dk_at dksX4_raises_0 12 rfl rfl)
theorem dX4_raises_15 : decode cX4_raises 15 = .ok (.ifCond .eq 21, 3) := dk_153 0 21 (dk_at dksX4_raises_0 15 rfl rfl)
theorem dX4_raises_18 : decode cX4_raises 18 = .ok (.aload_n 0, 1) := dk_42 (dk_at dksX4_raises_0 18 rfl rfl)
theorem dX4_raises_19 : decode cX4_raises 19 = .ok (.getfield 15, 3) := dk_180 0 15 (dk_at dksX4_raises_0 19 rfl rfl)
theorem dX4_raises_22 : decode cX4_raises 22 = .ok (.iload_n 2, 1) := dk_28 (dk_at dksX4_raises_0 22 rfl rfl)
theorem dX4_raises_23 : decode cX4_raises 23 = .ok (.iaload, 1) := dk_46 (dk_at dksX4_raises_0 23 rfl rfl)
theorem dX4_raises_24 : decode cX4_raises 24 = .ok (.iconst 3, 1) := dk_6 (dk_at dksX4_raises_1 0 rfl rfl)
theorem dX4_raises_25 : decode cX4_raises 25 = .ok (.if_icmp .eq 11, 3) := dk_159 0 11 (dk_at dksX4_raises_1 1 rfl rfl)
theorem dX4_raises_28 : decode cX4_raises 28 = .ok (.aload_n 0, 1) := dk_42 (dk_at dksX4_raises_1 4 rfl rfl)
theorem dX4_raises_29 : decode cX4_raises 29 = .ok (.iload_n 2, 1) := dk_28 (dk_at dksX4_raises_1 5 rfl rfl)
theorem dX4_raises_30 : decode cX4_raises 30 = .ok (.invokevirtual 67, 3) := dk_182 0 67 (dk_at dksX4_raises_1 6 rfl rfl)
theorem dX4_raises_33 : decode cX4_raises 33 = .ok (.ifCond .eq 5, 3) := dk_153 0 5 (dk_at dksX4_raises_1 9 rfl rfl)
theorem dX4_raises_36 : decode cX4_raises 36 = .ok (.iconst 0, 1) := dk_3 (dk_at dksX4_raises_1 12 rfl rfl)
theorem dX4_raises_37 : decode cX4_raises 37 = .ok (.ireturn, 1) := dk_172 (dk_at dksX4_raises_1 13 rfl rfl)
theorem dX4_raises_38 : decode cX4_raises 38 = .ok (.aload_n 0, 1) := dk_42 (dk_at dksX4_raises_1 14 rfl rfl)
theorem dX4_raises_39 : decode cX4_raises 39 = .ok (.getfield 15, 3) := dk_180 0 15 (dk_at dksX4_raises_1 15 rfl rfl)
theorem dX4_raises_42 : decode cX4_raises 42 = .ok (.iload_n 2, 1) := dk_28 (dk_at dksX4_raises_1 18 rfl rfl)
theorem dX4_raises_43 : decode cX4_raises 43 = .ok (.dup2, 1) := dk_92 (dk_at dksX4_raises_1 19 rfl rfl)
theorem dX4_raises_44 : decode cX4_raises 44 = .ok (.iaload, 1) := dk_46 (dk_at dksX4_raises_1 20 rfl rfl)
theorem dX4_raises_45 : decode cX4_raises 45 = .ok (.iconst 1, 1) := dk_4 (dk_at dksX4_raises_1 21 rfl rfl)
theorem dX4_raises_46 : decode cX4_raises 46 = .ok (.iadd, 1) := dk_96 (dk_at dksX4_raises_1 22 rfl rfl)
theorem dX4_raises_47 : decode cX4_raises 47 = .ok (.iastore, 1) := dk_79 (dk_at dksX4_raises_1 23 rfl rfl)
theorem dX4_raises_48 : decode cX4_raises 48 = .ok (.iconst 1, 1) := dk_4 (dk_at dksX4_raises_2 0 rfl rfl)
theorem dX4_raises_49 : decode cX4_raises 49 = .ok (.ireturn, 1) := dk_172 (dk_at dksX4_raises_2 1 rfl rfl)
abbrev cX4_goes : ByteArray := prog_7_method_6_code
def yX4_goes : MethodName := ⟨RX4, "goes", "(III)Z"⟩
def dkwX4_goes_3 : List UInt8 := [92, 46, 21, 4, 96, 79, 42, 180, 0, 15, 28, 3, 79, 42, 180, 0, 19, 27, 28, 79, 4, 172]
abbrev dktX4_goes_3 : List UInt8 := dkwX4_goes_3 ++ []
def dkwX4_goes_2 : List UInt8 := [29, 46, 6, 21, 4, 100, 163, 0, 11, 42, 29, 182, 0, 67, 153, 0, 5, 3, 172, 42, 180, 0, 15, 29]
abbrev dktX4_goes_2 : List UInt8 := dkwX4_goes_2 ++ dktX4_goes_3
def dkwX4_goes_1 : List UInt8 := [180, 0, 22, 27, 46, 5, 21, 4, 104, 161, 0, 32, 42, 29, 182, 0, 63, 153, 0, 24, 42, 180, 0, 15]
abbrev dktX4_goes_1 : List UInt8 := dkwX4_goes_1 ++ dktX4_goes_2
def dkwX4_goes_0 : List UInt8 := [42, 28, 182, 0, 63, 154, 0, 5, 3, 172, 42, 180, 0, 15, 28, 46, 54, 4, 21, 4, 158, 0, 65, 42]
abbrev dktX4_goes_0 : List UInt8 := dkwX4_goes_0 ++ dktX4_goes_1
theorem dksX4_goes_0 : cX4_goes.data.toList.drop 0 = dktX4_goes_0 := by decide +kernel
theorem dksX4_goes_1 : cX4_goes.data.toList.drop 24 = dktX4_goes_1 := dk_seg dksX4_goes_0 24 rfl rfl
theorem dksX4_goes_2 : cX4_goes.data.toList.drop 48 = dktX4_goes_2 := dk_seg dksX4_goes_1 24 rfl rfl
theorem dksX4_goes_3 : cX4_goes.data.toList.drop 72 = dktX4_goes_3 := dk_seg dksX4_goes_2 24 rfl rfl
theorem dX4_goes_0 : decode cX4_goes 0 = .ok (.aload_n 0, 1) := dk_42 (dk_at dksX4_goes_0 0 rfl rfl)
theorem dX4_goes_1 : decode cX4_goes 1 = .ok (.iload_n 2, 1) := dk_28 (dk_at dksX4_goes_0 1 rfl rfl)
theorem dX4_goes_2 : decode cX4_goes 2 = .ok (.invokevirtual 63, 3) := dk_182 0 63 (dk_at dksX4_goes_0 2 rfl rfl)
theorem dX4_goes_5 : decode cX4_goes 5 = .ok (.ifCond .ne 5, 3) := dk_154 0 5 (dk_at dksX4_goes_0 5 rfl rfl)
theorem dX4_goes_8 : decode cX4_goes 8 = .ok (.iconst 0, 1) := dk_3 (dk_at dksX4_goes_0 8 rfl rfl)
theorem dX4_goes_9 : decode cX4_goes 9 = .ok (.ireturn, 1) := dk_172 (dk_at dksX4_goes_0 9 rfl rfl)
theorem dX4_goes_10 : decode cX4_goes 10 = .ok (.aload_n 0, 1) := dk_42 (dk_at dksX4_goes_0 10 rfl rfl)
theorem dX4_goes_11 : decode cX4_goes 11 = .ok (.getfield 15, 3) := dk_180 0 15 (dk_at dksX4_goes_0 11 rfl rfl)
theorem dX4_goes_14 : decode cX4_goes 14 = .ok (.iload_n 2, 1) := dk_28 (dk_at dksX4_goes_0 14 rfl rfl)
theorem dX4_goes_15 : decode cX4_goes 15 = .ok (.iaload, 1) := dk_46 (dk_at dksX4_goes_0 15 rfl rfl)
theorem dX4_goes_16 : decode cX4_goes 16 = .ok (.istore 4, 2) := dk_54 4 (dk_at dksX4_goes_0 16 rfl rfl)
theorem dX4_goes_18 : decode cX4_goes 18 = .ok (.iload 4, 2) := dk_21 4 (dk_at dksX4_goes_0 18 rfl rfl)
theorem dX4_goes_20 : decode cX4_goes 20 = .ok (.ifCond .le 65, 3) := dk_158 0 65 (dk_at dksX4_goes_0 20 rfl rfl)
theorem dX4_goes_23 : decode cX4_goes 23 = .ok (.aload_n 0, 1) := dk_42 (dk_at dksX4_goes_0 23 rfl rfl)
theorem dX4_goes_24 : decode cX4_goes 24 = .ok (.getfield 22, 3) := dk_180 0 22 (dk_at dksX4_goes_1 0 rfl rfl)
theorem dX4_goes_27 : decode cX4_goes 27 = .ok (.iload_n 1, 1) := dk_27 (dk_at dksX4_goes_1 3 rfl rfl)
theorem dX4_goes_28 : decode cX4_goes 28 = .ok (.iaload, 1) := dk_46 (dk_at dksX4_goes_1 4 rfl rfl)
theorem dX4_goes_29 : decode cX4_goes 29 = .ok (.iconst 2, 1) := dk_5 (dk_at dksX4_goes_1 5 rfl rfl)
theorem dX4_goes_30 : decode cX4_goes 30 = .ok (.iload 4, 2) := dk_21 4 (dk_at dksX4_goes_1 6 rfl rfl)
theorem dX4_goes_32 : decode cX4_goes 32 = .ok (.imul, 1) := dk_104 (dk_at dksX4_goes_1 8 rfl rfl)
theorem dX4_goes_33 : decode cX4_goes 33 = .ok (.if_icmp .lt 32, 3) := dk_161 0 32 (dk_at dksX4_goes_1 9 rfl rfl)
theorem dX4_goes_36 : decode cX4_goes 36 = .ok (.aload_n 0, 1) := dk_42 (dk_at dksX4_goes_1 12 rfl rfl)
theorem dX4_goes_37 : decode cX4_goes 37 = .ok (.iload_n 3, 1) := dk_29 (dk_at dksX4_goes_1 13 rfl rfl)
theorem dX4_goes_38 : decode cX4_goes 38 = .ok (.invokevirtual 63, 3) := dk_182 0 63 (dk_at dksX4_goes_1 14 rfl rfl)
theorem dX4_goes_41 : decode cX4_goes 41 = .ok (.ifCond .eq 24, 3) := dk_153 0 24 (dk_at dksX4_goes_1 17 rfl rfl)
theorem dX4_goes_44 : decode cX4_goes 44 = .ok (.aload_n 0, 1) := dk_42 (dk_at dksX4_goes_1 20 rfl rfl)
theorem dX4_goes_45 : decode cX4_goes 45 = .ok (.getfield 15, 3) := dk_180 0 15 (dk_at dksX4_goes_1 21 rfl rfl)
theorem dX4_goes_48 : decode cX4_goes 48 = .ok (.iload_n 3, 1) := dk_29 (dk_at dksX4_goes_2 0 rfl rfl)
theorem dX4_goes_49 : decode cX4_goes 49 = .ok (.iaload, 1) := dk_46 (dk_at dksX4_goes_2 1 rfl rfl)
theorem dX4_goes_50 : decode cX4_goes 50 = .ok (.iconst 3, 1) := dk_6 (dk_at dksX4_goes_2 2 rfl rfl)
theorem dX4_goes_51 : decode cX4_goes 51 = .ok (.iload 4, 2) := dk_21 4 (dk_at dksX4_goes_2 3 rfl rfl)
theorem dX4_goes_53 : decode cX4_goes 53 = .ok (.isub, 1) := dk_100 (dk_at dksX4_goes_2 5 rfl rfl)
theorem dX4_goes_54 : decode cX4_goes 54 = .ok (.if_icmp .gt 11, 3) := dk_163 0 11 (dk_at dksX4_goes_2 6 rfl rfl)
theorem dX4_goes_57 : decode cX4_goes 57 = .ok (.aload_n 0, 1) := dk_42 (dk_at dksX4_goes_2 9 rfl rfl)
theorem dX4_goes_58 : decode cX4_goes 58 = .ok (.iload_n 3, 1) := dk_29 (dk_at dksX4_goes_2 10 rfl rfl)
theorem dX4_goes_59 : decode cX4_goes 59 = .ok (.invokevirtual 67, 3) := dk_182 0 67 (dk_at dksX4_goes_2 11 rfl rfl)
theorem dX4_goes_62 : decode cX4_goes 62 = .ok (.ifCond .eq 5, 3) := dk_153 0 5 (dk_at dksX4_goes_2 14 rfl rfl)
theorem dX4_goes_65 : decode cX4_goes 65 = .ok (.iconst 0, 1) := dk_3 (dk_at dksX4_goes_2 17 rfl rfl)
theorem dX4_goes_66 : decode cX4_goes 66 = .ok (.ireturn, 1) := dk_172 (dk_at dksX4_goes_2 18 rfl rfl)
theorem dX4_goes_67 : decode cX4_goes 67 = .ok (.aload_n 0, 1) := dk_42 (dk_at dksX4_goes_2 19 rfl rfl)
theorem dX4_goes_68 : decode cX4_goes 68 = .ok (.getfield 15, 3) := dk_180 0 15 (dk_at dksX4_goes_2 20 rfl rfl)
theorem dX4_goes_71 : decode cX4_goes 71 = .ok (.iload_n 3, 1) := dk_29 (dk_at dksX4_goes_2 23 rfl rfl)
theorem dX4_goes_72 : decode cX4_goes 72 = .ok (.dup2, 1) := dk_92 (dk_at dksX4_goes_3 0 rfl rfl)
theorem dX4_goes_73 : decode cX4_goes 73 = .ok (.iaload, 1) := dk_46 (dk_at dksX4_goes_3 1 rfl rfl)
theorem dX4_goes_74 : decode cX4_goes 74 = .ok (.iload 4, 2) := dk_21 4 (dk_at dksX4_goes_3 2 rfl rfl)
theorem dX4_goes_76 : decode cX4_goes 76 = .ok (.iadd, 1) := dk_96 (dk_at dksX4_goes_3 4 rfl rfl)
theorem dX4_goes_77 : decode cX4_goes 77 = .ok (.iastore, 1) := dk_79 (dk_at dksX4_goes_3 5 rfl rfl)
theorem dX4_goes_78 : decode cX4_goes 78 = .ok (.aload_n 0, 1) := dk_42 (dk_at dksX4_goes_3 6 rfl rfl)
theorem dX4_goes_79 : decode cX4_goes 79 = .ok (.getfield 15, 3) := dk_180 0 15 (dk_at dksX4_goes_3 7 rfl rfl)
theorem dX4_goes_82 : decode cX4_goes 82 = .ok (.iload_n 2, 1) := dk_28 (dk_at dksX4_goes_3 10 rfl rfl)
theorem dX4_goes_83 : decode cX4_goes 83 = .ok (.iconst 0, 1) := dk_3 (dk_at dksX4_goes_3 11 rfl rfl)
theorem dX4_goes_84 : decode cX4_goes 84 = .ok (.iastore, 1) := dk_79 (dk_at dksX4_goes_3 12 rfl rfl)
theorem dX4_goes_85 : decode cX4_goes 85 = .ok (.aload_n 0, 1) := dk_42 (dk_at dksX4_goes_3 13 rfl rfl)
theorem dX4_goes_86 : decode cX4_goes 86 = .ok (.getfield 19, 3) := dk_180 0 19 (dk_at dksX4_goes_3 14 rfl rfl)
theorem dX4_goes_89 : decode cX4_goes 89 = .ok (.iload_n 1, 1) := dk_27 (dk_at dksX4_goes_3 17 rfl rfl)
theorem dX4_goes_90 : decode cX4_goes 90 = .ok (.iload_n 2, 1) := dk_28 (dk_at dksX4_goes_3 18 rfl rfl)
theorem dX4_goes_91 : decode cX4_goes 91 = .ok (.iastore, 1) := dk_79 (dk_at dksX4_goes_3 19 rfl rfl)
theorem dX4_goes_92 : decode cX4_goes 92 = .ok (.iconst 1, 1) := dk_4 (dk_at dksX4_goes_3 20 rfl rfl)
theorem dX4_goes_93 : decode cX4_goes 93 = .ok (.ireturn, 1) := dk_172 (dk_at dksX4_goes_3 21 rfl rfl)
abbrev cX4_patrol : ByteArray := prog_7_method_11_code
def yX4_patrol : MethodName := ⟨RX4, "patrol", "(I)V"⟩
def dkwX4_patrol_3 : List UInt8 := [180, 0, 91, 27, 46, 112, 79, 177]
abbrev dktX4_patrol_3 : List UInt8 := dkwX4_patrol_3 ++ []
def dkwX4_patrol_2 : List UInt8 := [180, 0, 37, 27, 28, 79, 42, 180, 0, 40, 27, 42, 180, 0, 40, 27, 46, 4, 96, 42, 180, 0, 3]
abbrev dktX4_patrol_2 : List UInt8 := dkwX4_patrol_2 ++ dktX4_patrol_3
def dkwX4_patrol_1 : List UInt8 := [46, 184, 0, 70, 61, 42, 28, 182, 0, 63, 153, 0, 19, 42, 180, 0, 15, 28, 46, 154, 0, 10, 42]
abbrev dktX4_patrol_1 : List UInt8 := dkwX4_patrol_1 ++ dktX4_patrol_2
def dkwX4_patrol_0 : List UInt8 := [42, 180, 0, 37, 27, 46, 42, 180, 0, 3, 180, 0, 88, 16, 12, 27, 104, 42, 180, 0, 40, 27, 46, 96]
abbrev dktX4_patrol_0 : List UInt8 := dkwX4_patrol_0 ++ dktX4_patrol_1
theorem dksX4_patrol_0 : cX4_patrol.data.toList.drop 0 = dktX4_patrol_0 := by decide +kernel
theorem dksX4_patrol_1 : cX4_patrol.data.toList.drop 24 = dktX4_patrol_1 := dk_seg dksX4_patrol_0 24 rfl rfl
theorem dksX4_patrol_2 : cX4_patrol.data.toList.drop 47 = dktX4_patrol_2 := dk_seg dksX4_patrol_1 23 rfl rfl
theorem dksX4_patrol_3 : cX4_patrol.data.toList.drop 70 = dktX4_patrol_3 := dk_seg dksX4_patrol_2 23 rfl rfl
theorem dX4_patrol_0 : decode cX4_patrol 0 = .ok (.aload_n 0, 1) := dk_42 (dk_at dksX4_patrol_0 0 rfl rfl)
theorem dX4_patrol_1 : decode cX4_patrol 1 = .ok (.getfield 37, 3) := dk_180 0 37 (dk_at dksX4_patrol_0 1 rfl rfl)
theorem dX4_patrol_4 : decode cX4_patrol 4 = .ok (.iload_n 1, 1) := dk_27 (dk_at dksX4_patrol_0 4 rfl rfl)
theorem dX4_patrol_5 : decode cX4_patrol 5 = .ok (.iaload, 1) := dk_46 (dk_at dksX4_patrol_0 5 rfl rfl)
theorem dX4_patrol_6 : decode cX4_patrol 6 = .ok (.aload_n 0, 1) := dk_42 (dk_at dksX4_patrol_0 6 rfl rfl)
theorem dX4_patrol_7 : decode cX4_patrol 7 = .ok (.getfield 3, 3) := dk_180 0 3 (dk_at dksX4_patrol_0 7 rfl rfl)
theorem dX4_patrol_10 : decode cX4_patrol 10 = .ok (.getfield 88, 3) := dk_180 0 88 (dk_at dksX4_patrol_0 10 rfl rfl)
theorem dX4_patrol_13 : decode cX4_patrol 13 = .ok (.bipush 12, 2) := dk_16 12 (dk_at dksX4_patrol_0 13 rfl rfl)
theorem dX4_patrol_15 : decode cX4_patrol 15 = .ok (.iload_n 1, 1) := dk_27 (dk_at dksX4_patrol_0 15 rfl rfl)
theorem dX4_patrol_16 : decode cX4_patrol 16 = .ok (.imul, 1) := dk_104 (dk_at dksX4_patrol_0 16 rfl rfl)
theorem dX4_patrol_17 : decode cX4_patrol 17 = .ok (.aload_n 0, 1) := dk_42 (dk_at dksX4_patrol_0 17 rfl rfl)
theorem dX4_patrol_18 : decode cX4_patrol 18 = .ok (.getfield 40, 3) := dk_180 0 40 (dk_at dksX4_patrol_0 18 rfl rfl)
theorem dX4_patrol_21 : decode cX4_patrol 21 = .ok (.iload_n 1, 1) := dk_27 (dk_at dksX4_patrol_0 21 rfl rfl)
theorem dX4_patrol_22 : decode cX4_patrol 22 = .ok (.iaload, 1) := dk_46 (dk_at dksX4_patrol_0 22 rfl rfl)
theorem dX4_patrol_23 : decode cX4_patrol 23 = .ok (.iadd, 1) := dk_96 (dk_at dksX4_patrol_0 23 rfl rfl)
theorem dX4_patrol_24 : decode cX4_patrol 24 = .ok (.iaload, 1) := dk_46 (dk_at dksX4_patrol_1 0 rfl rfl)
theorem dX4_patrol_25 : decode cX4_patrol 25 = .ok (.invokestatic 70, 3) := dk_184 0 70 (dk_at dksX4_patrol_1 1 rfl rfl)
theorem dX4_patrol_28 : decode cX4_patrol 28 = .ok (.istore_n 2, 1) := dk_61 (dk_at dksX4_patrol_1 4 rfl rfl)
theorem dX4_patrol_29 : decode cX4_patrol 29 = .ok (.aload_n 0, 1) := dk_42 (dk_at dksX4_patrol_1 5 rfl rfl)
theorem dX4_patrol_30 : decode cX4_patrol 30 = .ok (.iload_n 2, 1) := dk_28 (dk_at dksX4_patrol_1 6 rfl rfl)
theorem dX4_patrol_31 : decode cX4_patrol 31 = .ok (.invokevirtual 63, 3) := dk_182 0 63 (dk_at dksX4_patrol_1 7 rfl rfl)
theorem dX4_patrol_34 : decode cX4_patrol 34 = .ok (.ifCond .eq 19, 3) := dk_153 0 19 (dk_at dksX4_patrol_1 10 rfl rfl)
theorem dX4_patrol_37 : decode cX4_patrol 37 = .ok (.aload_n 0, 1) := dk_42 (dk_at dksX4_patrol_1 13 rfl rfl)
theorem dX4_patrol_38 : decode cX4_patrol 38 = .ok (.getfield 15, 3) := dk_180 0 15 (dk_at dksX4_patrol_1 14 rfl rfl)
theorem dX4_patrol_41 : decode cX4_patrol 41 = .ok (.iload_n 2, 1) := dk_28 (dk_at dksX4_patrol_1 17 rfl rfl)
theorem dX4_patrol_42 : decode cX4_patrol 42 = .ok (.iaload, 1) := dk_46 (dk_at dksX4_patrol_1 18 rfl rfl)
theorem dX4_patrol_43 : decode cX4_patrol 43 = .ok (.ifCond .ne 10, 3) := dk_154 0 10 (dk_at dksX4_patrol_1 19 rfl rfl)
theorem dX4_patrol_46 : decode cX4_patrol 46 = .ok (.aload_n 0, 1) := dk_42 (dk_at dksX4_patrol_1 22 rfl rfl)
theorem dX4_patrol_47 : decode cX4_patrol 47 = .ok (.getfield 37, 3) := dk_180 0 37 (dk_at dksX4_patrol_2 0 rfl rfl)
theorem dX4_patrol_50 : decode cX4_patrol 50 = .ok (.iload_n 1, 1) := dk_27 (dk_at dksX4_patrol_2 3 rfl rfl)
theorem dX4_patrol_51 : decode cX4_patrol 51 = .ok (.iload_n 2, 1) := dk_28 (dk_at dksX4_patrol_2 4 rfl rfl)
theorem dX4_patrol_52 : decode cX4_patrol 52 = .ok (.iastore, 1) := dk_79 (dk_at dksX4_patrol_2 5 rfl rfl)
theorem dX4_patrol_53 : decode cX4_patrol 53 = .ok (.aload_n 0, 1) := dk_42 (dk_at dksX4_patrol_2 6 rfl rfl)
theorem dX4_patrol_54 : decode cX4_patrol 54 = .ok (.getfield 40, 3) := dk_180 0 40 (dk_at dksX4_patrol_2 7 rfl rfl)
theorem dX4_patrol_57 : decode cX4_patrol 57 = .ok (.iload_n 1, 1) := dk_27 (dk_at dksX4_patrol_2 10 rfl rfl)
theorem dX4_patrol_58 : decode cX4_patrol 58 = .ok (.aload_n 0, 1) := dk_42 (dk_at dksX4_patrol_2 11 rfl rfl)
theorem dX4_patrol_59 : decode cX4_patrol 59 = .ok (.getfield 40, 3) := dk_180 0 40 (dk_at dksX4_patrol_2 12 rfl rfl)
theorem dX4_patrol_62 : decode cX4_patrol 62 = .ok (.iload_n 1, 1) := dk_27 (dk_at dksX4_patrol_2 15 rfl rfl)
theorem dX4_patrol_63 : decode cX4_patrol 63 = .ok (.iaload, 1) := dk_46 (dk_at dksX4_patrol_2 16 rfl rfl)
theorem dX4_patrol_64 : decode cX4_patrol 64 = .ok (.iconst 1, 1) := dk_4 (dk_at dksX4_patrol_2 17 rfl rfl)
theorem dX4_patrol_65 : decode cX4_patrol 65 = .ok (.iadd, 1) := dk_96 (dk_at dksX4_patrol_2 18 rfl rfl)
theorem dX4_patrol_66 : decode cX4_patrol 66 = .ok (.aload_n 0, 1) := dk_42 (dk_at dksX4_patrol_2 19 rfl rfl)
theorem dX4_patrol_67 : decode cX4_patrol 67 = .ok (.getfield 3, 3) := dk_180 0 3 (dk_at dksX4_patrol_2 20 rfl rfl)
theorem dX4_patrol_70 : decode cX4_patrol 70 = .ok (.getfield 91, 3) := dk_180 0 91 (dk_at dksX4_patrol_3 0 rfl rfl)
theorem dX4_patrol_73 : decode cX4_patrol 73 = .ok (.iload_n 1, 1) := dk_27 (dk_at dksX4_patrol_3 3 rfl rfl)
theorem dX4_patrol_74 : decode cX4_patrol 74 = .ok (.iaload, 1) := dk_46 (dk_at dksX4_patrol_3 4 rfl rfl)
theorem dX4_patrol_75 : decode cX4_patrol 75 = .ok (.irem, 1) := dk_112 (dk_at dksX4_patrol_3 5 rfl rfl)
theorem dX4_patrol_76 : decode cX4_patrol 76 = .ok (.iastore, 1) := dk_79 (dk_at dksX4_patrol_3 6 rfl rfl)
theorem dX4_patrol_77 : decode cX4_patrol 77 = .ok (.return_, 1) := dk_177 (dk_at dksX4_patrol_3 7 rfl rfl)
abbrev cX4_become : ByteArray := prog_7_method_3_code
def yX4_become : MethodName := ⟨RX4, "become", "(LLaneCrowdsModel$State;)V"⟩
def dkwX4_become_4 : List UInt8 := [180, 0, 37, 42, 180, 0, 37, 182, 0, 53, 42, 43, 180, 0, 40, 42, 180, 0, 40, 182, 0, 53, 177]
abbrev dktX4_become_4 : List UInt8 := dkwX4_become_4 ++ []
def dkwX4_become_3 : List UInt8 := [180, 0, 31, 42, 180, 0, 31, 182, 0, 53, 42, 43, 180, 0, 34, 42, 180, 0, 34, 182, 0, 53, 42, 43]
abbrev dktX4_become_3 : List UInt8 := dkwX4_become_3 ++ dktX4_become_4
def dkwX4_become_2 : List UInt8 := [180, 0, 25, 42, 180, 0, 25, 182, 0, 53, 42, 43, 180, 0, 28, 42, 180, 0, 28, 182, 0, 53, 42, 43]
abbrev dktX4_become_2 : List UInt8 := dkwX4_become_2 ++ dktX4_become_3
def dkwX4_become_1 : List UInt8 := [180, 0, 19, 42, 180, 0, 19, 182, 0, 53, 42, 43, 180, 0, 22, 42, 180, 0, 22, 182, 0, 53, 42, 43]
abbrev dktX4_become_1 : List UInt8 := dkwX4_become_1 ++ dktX4_become_2
def dkwX4_become_0 : List UInt8 := [42, 43, 180, 0, 49, 181, 0, 49, 42, 43, 180, 0, 15, 42, 180, 0, 15, 182, 0, 53, 42, 43]
abbrev dktX4_become_0 : List UInt8 := dkwX4_become_0 ++ dktX4_become_1
theorem dksX4_become_0 : cX4_become.data.toList.drop 0 = dktX4_become_0 := by decide +kernel
theorem dksX4_become_1 : cX4_become.data.toList.drop 22 = dktX4_become_1 := dk_seg dksX4_become_0 22 rfl rfl
theorem dksX4_become_2 : cX4_become.data.toList.drop 46 = dktX4_become_2 := dk_seg dksX4_become_1 24 rfl rfl
theorem dksX4_become_3 : cX4_become.data.toList.drop 70 = dktX4_become_3 := dk_seg dksX4_become_2 24 rfl rfl
theorem dksX4_become_4 : cX4_become.data.toList.drop 94 = dktX4_become_4 := dk_seg dksX4_become_3 24 rfl rfl
theorem dX4_become_0 : decode cX4_become 0 = .ok (.aload_n 0, 1) := dk_42 (dk_at dksX4_become_0 0 rfl rfl)
theorem dX4_become_1 : decode cX4_become 1 = .ok (.aload_n 1, 1) := dk_43 (dk_at dksX4_become_0 1 rfl rfl)
theorem dX4_become_2 : decode cX4_become 2 = .ok (.getfield 49, 3) := dk_180 0 49 (dk_at dksX4_become_0 2 rfl rfl)
theorem dX4_become_5 : decode cX4_become 5 = .ok (.putfield 49, 3) := dk_181 0 49 (dk_at dksX4_become_0 5 rfl rfl)
theorem dX4_become_8 : decode cX4_become 8 = .ok (.aload_n 0, 1) := dk_42 (dk_at dksX4_become_0 8 rfl rfl)
theorem dX4_become_9 : decode cX4_become 9 = .ok (.aload_n 1, 1) := dk_43 (dk_at dksX4_become_0 9 rfl rfl)
theorem dX4_become_10 : decode cX4_become 10 = .ok (.getfield 15, 3) := dk_180 0 15 (dk_at dksX4_become_0 10 rfl rfl)
theorem dX4_become_13 : decode cX4_become 13 = .ok (.aload_n 0, 1) := dk_42 (dk_at dksX4_become_0 13 rfl rfl)
theorem dX4_become_14 : decode cX4_become 14 = .ok (.getfield 15, 3) := dk_180 0 15 (dk_at dksX4_become_0 14 rfl rfl)
theorem dX4_become_17 : decode cX4_become 17 = .ok (.invokevirtual 53, 3) := dk_182 0 53 (dk_at dksX4_become_0 17 rfl rfl)
theorem dX4_become_20 : decode cX4_become 20 = .ok (.aload_n 0, 1) := dk_42 (dk_at dksX4_become_0 20 rfl rfl)
theorem dX4_become_21 : decode cX4_become 21 = .ok (.aload_n 1, 1) := dk_43 (dk_at dksX4_become_0 21 rfl rfl)
theorem dX4_become_22 : decode cX4_become 22 = .ok (.getfield 19, 3) := dk_180 0 19 (dk_at dksX4_become_1 0 rfl rfl)
theorem dX4_become_25 : decode cX4_become 25 = .ok (.aload_n 0, 1) := dk_42 (dk_at dksX4_become_1 3 rfl rfl)
theorem dX4_become_26 : decode cX4_become 26 = .ok (.getfield 19, 3) := dk_180 0 19 (dk_at dksX4_become_1 4 rfl rfl)
theorem dX4_become_29 : decode cX4_become 29 = .ok (.invokevirtual 53, 3) := dk_182 0 53 (dk_at dksX4_become_1 7 rfl rfl)
theorem dX4_become_32 : decode cX4_become 32 = .ok (.aload_n 0, 1) := dk_42 (dk_at dksX4_become_1 10 rfl rfl)
theorem dX4_become_33 : decode cX4_become 33 = .ok (.aload_n 1, 1) := dk_43 (dk_at dksX4_become_1 11 rfl rfl)
theorem dX4_become_34 : decode cX4_become 34 = .ok (.getfield 22, 3) := dk_180 0 22 (dk_at dksX4_become_1 12 rfl rfl)
theorem dX4_become_37 : decode cX4_become 37 = .ok (.aload_n 0, 1) := dk_42 (dk_at dksX4_become_1 15 rfl rfl)
theorem dX4_become_38 : decode cX4_become 38 = .ok (.getfield 22, 3) := dk_180 0 22 (dk_at dksX4_become_1 16 rfl rfl)
theorem dX4_become_41 : decode cX4_become 41 = .ok (.invokevirtual 53, 3) := dk_182 0 53 (dk_at dksX4_become_1 19 rfl rfl)
theorem dX4_become_44 : decode cX4_become 44 = .ok (.aload_n 0, 1) := dk_42 (dk_at dksX4_become_1 22 rfl rfl)
theorem dX4_become_45 : decode cX4_become 45 = .ok (.aload_n 1, 1) := dk_43 (dk_at dksX4_become_1 23 rfl rfl)
theorem dX4_become_46 : decode cX4_become 46 = .ok (.getfield 25, 3) := dk_180 0 25 (dk_at dksX4_become_2 0 rfl rfl)
theorem dX4_become_49 : decode cX4_become 49 = .ok (.aload_n 0, 1) := dk_42 (dk_at dksX4_become_2 3 rfl rfl)
theorem dX4_become_50 : decode cX4_become 50 = .ok (.getfield 25, 3) := dk_180 0 25 (dk_at dksX4_become_2 4 rfl rfl)
theorem dX4_become_53 : decode cX4_become 53 = .ok (.invokevirtual 53, 3) := dk_182 0 53 (dk_at dksX4_become_2 7 rfl rfl)
theorem dX4_become_56 : decode cX4_become 56 = .ok (.aload_n 0, 1) := dk_42 (dk_at dksX4_become_2 10 rfl rfl)
theorem dX4_become_57 : decode cX4_become 57 = .ok (.aload_n 1, 1) := dk_43 (dk_at dksX4_become_2 11 rfl rfl)
theorem dX4_become_58 : decode cX4_become 58 = .ok (.getfield 28, 3) := dk_180 0 28 (dk_at dksX4_become_2 12 rfl rfl)
theorem dX4_become_61 : decode cX4_become 61 = .ok (.aload_n 0, 1) := dk_42 (dk_at dksX4_become_2 15 rfl rfl)
theorem dX4_become_62 : decode cX4_become 62 = .ok (.getfield 28, 3) := dk_180 0 28 (dk_at dksX4_become_2 16 rfl rfl)
theorem dX4_become_65 : decode cX4_become 65 = .ok (.invokevirtual 53, 3) := dk_182 0 53 (dk_at dksX4_become_2 19 rfl rfl)
theorem dX4_become_68 : decode cX4_become 68 = .ok (.aload_n 0, 1) := dk_42 (dk_at dksX4_become_2 22 rfl rfl)
theorem dX4_become_69 : decode cX4_become 69 = .ok (.aload_n 1, 1) := dk_43 (dk_at dksX4_become_2 23 rfl rfl)
theorem dX4_become_70 : decode cX4_become 70 = .ok (.getfield 31, 3) := dk_180 0 31 (dk_at dksX4_become_3 0 rfl rfl)
theorem dX4_become_73 : decode cX4_become 73 = .ok (.aload_n 0, 1) := dk_42 (dk_at dksX4_become_3 3 rfl rfl)
theorem dX4_become_74 : decode cX4_become 74 = .ok (.getfield 31, 3) := dk_180 0 31 (dk_at dksX4_become_3 4 rfl rfl)
theorem dX4_become_77 : decode cX4_become 77 = .ok (.invokevirtual 53, 3) := dk_182 0 53 (dk_at dksX4_become_3 7 rfl rfl)
theorem dX4_become_80 : decode cX4_become 80 = .ok (.aload_n 0, 1) := dk_42 (dk_at dksX4_become_3 10 rfl rfl)
theorem dX4_become_81 : decode cX4_become 81 = .ok (.aload_n 1, 1) := dk_43 (dk_at dksX4_become_3 11 rfl rfl)
theorem dX4_become_82 : decode cX4_become 82 = .ok (.getfield 34, 3) := dk_180 0 34 (dk_at dksX4_become_3 12 rfl rfl)
theorem dX4_become_85 : decode cX4_become 85 = .ok (.aload_n 0, 1) := dk_42 (dk_at dksX4_become_3 15 rfl rfl)
theorem dX4_become_86 : decode cX4_become 86 = .ok (.getfield 34, 3) := dk_180 0 34 (dk_at dksX4_become_3 16 rfl rfl)
theorem dX4_become_89 : decode cX4_become 89 = .ok (.invokevirtual 53, 3) := dk_182 0 53 (dk_at dksX4_become_3 19 rfl rfl)
theorem dX4_become_92 : decode cX4_become 92 = .ok (.aload_n 0, 1) := dk_42 (dk_at dksX4_become_3 22 rfl rfl)
theorem dX4_become_93 : decode cX4_become 93 = .ok (.aload_n 1, 1) := dk_43 (dk_at dksX4_become_3 23 rfl rfl)
theorem dX4_become_94 : decode cX4_become 94 = .ok (.getfield 37, 3) := dk_180 0 37 (dk_at dksX4_become_4 0 rfl rfl)
theorem dX4_become_97 : decode cX4_become 97 = .ok (.aload_n 0, 1) := dk_42 (dk_at dksX4_become_4 3 rfl rfl)
theorem dX4_become_98 : decode cX4_become 98 = .ok (.getfield 37, 3) := dk_180 0 37 (dk_at dksX4_become_4 4 rfl rfl)
theorem dX4_become_101 : decode cX4_become 101 = .ok (.invokevirtual 53, 3) := dk_182 0 53 (dk_at dksX4_become_4 7 rfl rfl)
theorem dX4_become_104 : decode cX4_become 104 = .ok (.aload_n 0, 1) := dk_42 (dk_at dksX4_become_4 10 rfl rfl)
theorem dX4_become_105 : decode cX4_become 105 = .ok (.aload_n 1, 1) := dk_43 (dk_at dksX4_become_4 11 rfl rfl)
theorem dX4_become_106 : decode cX4_become 106 = .ok (.getfield 40, 3) := dk_180 0 40 (dk_at dksX4_become_4 12 rfl rfl)
theorem dX4_become_109 : decode cX4_become 109 = .ok (.aload_n 0, 1) := dk_42 (dk_at dksX4_become_4 15 rfl rfl)
theorem dX4_become_110 : decode cX4_become 110 = .ok (.getfield 40, 3) := dk_180 0 40 (dk_at dksX4_become_4 16 rfl rfl)
theorem dX4_become_113 : decode cX4_become 113 = .ok (.invokevirtual 53, 3) := dk_182 0 53 (dk_at dksX4_become_4 19 rfl rfl)
theorem dX4_become_116 : decode cX4_become 116 = .ok (.return_, 1) := dk_177 (dk_at dksX4_become_4 22 rfl rfl)
abbrev cX4_copy : ByteArray := prog_7_method_2_code
def yX4_copy : MethodName := ⟨RX4, "copy", "([I[I)V"⟩
def dkwX4_copy_0 : List UInt8 := [43, 3, 44, 3, 43, 190, 184, 0, 43, 177]
abbrev dktX4_copy_0 : List UInt8 := dkwX4_copy_0 ++ []
theorem dksX4_copy_0 : cX4_copy.data.toList.drop 0 = dktX4_copy_0 := by decide +kernel
theorem dX4_copy_0 : decode cX4_copy 0 = .ok (.aload_n 1, 1) := dk_43 (dk_at dksX4_copy_0 0 rfl rfl)
theorem dX4_copy_1 : decode cX4_copy 1 = .ok (.iconst 0, 1) := dk_3 (dk_at dksX4_copy_0 1 rfl rfl)
theorem dX4_copy_2 : decode cX4_copy 2 = .ok (.aload_n 2, 1) := dk_44 (dk_at dksX4_copy_0 2 rfl rfl)
theorem dX4_copy_3 : decode cX4_copy 3 = .ok (.iconst 0, 1) := dk_3 (dk_at dksX4_copy_0 3 rfl rfl)
theorem dX4_copy_4 : decode cX4_copy 4 = .ok (.aload_n 1, 1) := dk_43 (dk_at dksX4_copy_0 4 rfl rfl)
theorem dX4_copy_5 : decode cX4_copy 5 = .ok (.arraylength, 1) := dk_190 (dk_at dksX4_copy_0 5 rfl rfl)
theorem dX4_copy_6 : decode cX4_copy 6 = .ok (.invokestatic 43, 3) := dk_184 0 43 (dk_at dksX4_copy_0 6 rfl rfl)
theorem dX4_copy_9 : decode cX4_copy 9 = .ok (.return_, 1) := dk_177 (dk_at dksX4_copy_0 9 rfl rfl)
theorem q43 : (Jvm.Cond.initialized "LaneCrowdsModel$State") ∈ lw_all := lw_g (lw_at lw_m1 7 rfl) rfl
theorem q506 : (Jvm.Cond.selects "LaneCrowdsModel$State" ({ cls := "java/lang/Object", name := "getClass", desc := "()Ljava/lang/Class;" } : Jvm.MethodName) ({ cls := "java/lang/Object", name := "getClass", desc := "()Ljava/lang/Class;" } : Jvm.MethodName)) ∈ lw_all := lw_g (lw_at lw_m2 230 rfl) rfl
theorem q756 : (Jvm.Cond.instantiable "LaneCrowdsModel$State" (11 : Nat)) ∈ lw_all := lw_g (lw_at lw_m4 0 rfl) rfl
theorem q758 : (Jvm.Cond.instanceMethod ({ cls := "LaneCrowdsModel$State", name := "<init>", desc := "(LLaneCrowdsModel;)V" } : Jvm.MethodName)) ∈ lw_all := lw_g (lw_at lw_m4 2 rfl) rfl
theorem q759 : (Jvm.Cond.code ({ cls := "LaneCrowdsModel$State", name := "<init>", desc := "(LLaneCrowdsModel;)V" } : Jvm.MethodName) prog_7_method_1_code (2 : Nat) (Option.none : Option Jvm.ClassFile.FieldType)) ∈ lw_all := lw_g (lw_at lw_m4 3 rfl) rfl
theorem q760 : (Jvm.Cond.methodLink "LaneCrowdsModel$State" (9 : Nat) ({ cls := "java/lang/Object", name := "<init>", desc := "()V" } : Jvm.MethodName)) ∈ lw_all := lw_g (lw_at lw_m4 4 rfl) rfl
theorem q761 : (Jvm.Cond.fieldLink "LaneCrowdsModel$State" (49 : Nat) "LaneCrowdsModel$State" "step" "I") ∈ lw_all := lw_g (lw_at lw_m4 5 rfl) rfl
theorem q763 : (Jvm.Cond.fieldLink "LaneCrowdsModel$State" (15 : Nat) "LaneCrowdsModel$State" "cells" "[I") ∈ lw_all := lw_g (lw_at lw_m4 7 rfl) rfl
theorem q765 : (Jvm.Cond.fieldLink "LaneCrowdsModel$State" (19 : Nat) "LaneCrowdsModel$State" "at" "[I") ∈ lw_all := lw_g (lw_at lw_m4 9 rfl) rfl
theorem q767 : (Jvm.Cond.fieldLink "LaneCrowdsModel$State" (22 : Nat) "LaneCrowdsModel$State" "people" "[I") ∈ lw_all := lw_g (lw_at lw_m4 11 rfl) rfl
theorem q769 : (Jvm.Cond.fieldLink "LaneCrowdsModel$State" (25 : Nat) "LaneCrowdsModel$State" "torch" "[I") ∈ lw_all := lw_g (lw_at lw_m4 13 rfl) rfl
theorem q771 : (Jvm.Cond.fieldLink "LaneCrowdsModel$State" (28 : Nat) "LaneCrowdsModel$State" "many" "[I") ∈ lw_all := lw_g (lw_at lw_m4 15 rfl) rfl
theorem q773 : (Jvm.Cond.fieldLink "LaneCrowdsModel$State" (31 : Nat) "LaneCrowdsModel$State" "orders" "[I") ∈ lw_all := lw_g (lw_at lw_m4 17 rfl) rfl
theorem q775 : (Jvm.Cond.fieldLink "LaneCrowdsModel$State" (34 : Nat) "LaneCrowdsModel$State" "missed" "[I") ∈ lw_all := lw_g (lw_at lw_m4 19 rfl) rfl
theorem q777 : (Jvm.Cond.fieldLink "LaneCrowdsModel$State" (37 : Nat) "LaneCrowdsModel$State" "post" "[I") ∈ lw_all := lw_g (lw_at lw_m4 21 rfl) rfl
theorem q779 : (Jvm.Cond.fieldLink "LaneCrowdsModel$State" (40 : Nat) "LaneCrowdsModel$State" "next" "[I") ∈ lw_all := lw_g (lw_at lw_m4 23 rfl) rfl
theorem q781 : (Jvm.Cond.fieldLink "LaneCrowdsModel$State" (3 : Nat) "LaneCrowdsModel$State" "this$0" "LLaneCrowdsModel;") ∈ lw_all := lw_g (lw_at lw_m4 25 rfl) rfl
theorem q782 : (Jvm.Cond.lays "LaneCrowdsModel$State" "LaneCrowdsModel$State" "step" "I") ∈ lw_all := lw_g (lw_at lw_m4 26 rfl) rfl
theorem q783 : (Jvm.Cond.soleField "LaneCrowdsModel$State" "step") ∈ lw_all := lw_g (lw_at lw_m4 27 rfl) rfl
theorem q784 : (Jvm.Cond.laysFinal "LaneCrowdsModel$State" "LaneCrowdsModel$State" "cells" "[I") ∈ lw_all := lw_g (lw_at lw_m4 28 rfl) rfl
theorem q785 : (Jvm.Cond.soleField "LaneCrowdsModel$State" "cells") ∈ lw_all := lw_g (lw_at lw_m4 29 rfl) rfl
theorem q786 : (Jvm.Cond.laysFinal "LaneCrowdsModel$State" "LaneCrowdsModel$State" "at" "[I") ∈ lw_all := lw_g (lw_at lw_m4 30 rfl) rfl
theorem q787 : (Jvm.Cond.soleField "LaneCrowdsModel$State" "at") ∈ lw_all := lw_g (lw_at lw_m4 31 rfl) rfl
theorem q788 : (Jvm.Cond.laysFinal "LaneCrowdsModel$State" "LaneCrowdsModel$State" "people" "[I") ∈ lw_all := lw_g (lw_at lw_m4 32 rfl) rfl
theorem q789 : (Jvm.Cond.soleField "LaneCrowdsModel$State" "people") ∈ lw_all := lw_g (lw_at lw_m4 33 rfl) rfl
theorem q790 : (Jvm.Cond.laysFinal "LaneCrowdsModel$State" "LaneCrowdsModel$State" "torch" "[I") ∈ lw_all := lw_g (lw_at lw_m4 34 rfl) rfl
theorem q791 : (Jvm.Cond.soleField "LaneCrowdsModel$State" "torch") ∈ lw_all := lw_g (lw_at lw_m4 35 rfl) rfl
theorem q792 : (Jvm.Cond.laysFinal "LaneCrowdsModel$State" "LaneCrowdsModel$State" "many" "[I") ∈ lw_all := lw_g (lw_at lw_m4 36 rfl) rfl
theorem q793 : (Jvm.Cond.soleField "LaneCrowdsModel$State" "many") ∈ lw_all := lw_g (lw_at lw_m4 37 rfl) rfl
theorem q794 : (Jvm.Cond.laysFinal "LaneCrowdsModel$State" "LaneCrowdsModel$State" "orders" "[I") ∈ lw_all := lw_g (lw_at lw_m4 38 rfl) rfl
theorem q795 : (Jvm.Cond.soleField "LaneCrowdsModel$State" "orders") ∈ lw_all := lw_g (lw_at lw_m4 39 rfl) rfl
theorem q796 : (Jvm.Cond.laysFinal "LaneCrowdsModel$State" "LaneCrowdsModel$State" "missed" "[I") ∈ lw_all := lw_g (lw_at lw_m4 40 rfl) rfl
theorem q797 : (Jvm.Cond.soleField "LaneCrowdsModel$State" "missed") ∈ lw_all := lw_g (lw_at lw_m4 41 rfl) rfl
theorem q798 : (Jvm.Cond.laysFinal "LaneCrowdsModel$State" "LaneCrowdsModel$State" "post" "[I") ∈ lw_all := lw_g (lw_at lw_m4 42 rfl) rfl
theorem q799 : (Jvm.Cond.soleField "LaneCrowdsModel$State" "post") ∈ lw_all := lw_g (lw_at lw_m4 43 rfl) rfl
theorem q800 : (Jvm.Cond.laysFinal "LaneCrowdsModel$State" "LaneCrowdsModel$State" "next" "[I") ∈ lw_all := lw_g (lw_at lw_m4 44 rfl) rfl
theorem q801 : (Jvm.Cond.soleField "LaneCrowdsModel$State" "next") ∈ lw_all := lw_g (lw_at lw_m4 45 rfl) rfl
theorem q802 : (Jvm.Cond.laysFinal "LaneCrowdsModel$State" "LaneCrowdsModel$State" "this$0" "LLaneCrowdsModel;") ∈ lw_all := lw_g (lw_at lw_m4 46 rfl) rfl
theorem q803 : (Jvm.Cond.soleField "LaneCrowdsModel$State" "this$0") ∈ lw_all := lw_g (lw_at lw_m4 47 rfl) rfl
theorem q804 : (Jvm.Cond.superclass "LaneCrowdsModel$State" "java/lang/Object") ∈ lw_all := lw_g (lw_at lw_m4 48 rfl) rfl
theorem q806 : (Jvm.Cond.fieldLinkNest "LaneCrowdsModel$State" (57 : Nat) "LaneCrowdsModel" "crowds" "I" "LaneCrowdsModel") ∈ lw_tbl := lw_at lw_m4 50 rfl
theorem q808 : (Jvm.Cond.fieldLinkNest "LaneCrowdsModel$State" (60 : Nat) "LaneCrowdsModel" "patrols" "I" "LaneCrowdsModel") ∈ lw_tbl := lw_at lw_m4 52 rfl
theorem q811 : (Jvm.Cond.fieldLinkNest "LaneCrowdsModel$State" (91 : Nat) "LaneCrowdsModel" "length" "[I" "LaneCrowdsModel") ∈ lw_tbl := lw_at lw_m4 55 rfl
theorem q813 : (Jvm.Cond.fieldLinkNest "LaneCrowdsModel$State" (88 : Nat) "LaneCrowdsModel" "round" "[I" "LaneCrowdsModel") ∈ lw_tbl := lw_at lw_m4 57 rfl
theorem q815 : (Jvm.Cond.fieldLinkNest "LaneCrowdsModel$State" (121 : Nat) "LaneCrowdsModel" "few" "[I" "LaneCrowdsModel") ∈ lw_tbl := lw_at lw_m4 59 rfl
theorem q857 : (Jvm.Cond.instanceMethod ({ cls := "LaneCrowdsModel$State", name := "isBusy", desc := "(I)Z" } : Jvm.MethodName)) ∈ lw_all := lw_g (lw_at lw_m4 101 rfl) rfl
theorem q858 : (Jvm.Cond.selects "LaneCrowdsModel$State" ({ cls := "LaneCrowdsModel$State", name := "isBusy", desc := "(I)Z" } : Jvm.MethodName) ({ cls := "LaneCrowdsModel$State", name := "isBusy", desc := "(I)Z" } : Jvm.MethodName)) ∈ lw_all := lw_g (lw_at lw_m4 102 rfl) rfl
theorem q859 : (Jvm.Cond.code ({ cls := "LaneCrowdsModel$State", name := "isBusy", desc := "(I)Z" } : Jvm.MethodName) prog_7_method_4_code (3 : Nat) (Option.some Jvm.ClassFile.FieldType.boolean)) ∈ lw_all := lw_g (lw_at lw_m4 103 rfl) rfl
theorem q897 : (Jvm.Cond.instanceMethod ({ cls := "LaneCrowdsModel$State", name := "seenBy", desc := "(I)I" } : Jvm.MethodName)) ∈ lw_all := lw_g (lw_at lw_m4 141 rfl) rfl
theorem q898 : (Jvm.Cond.selects "LaneCrowdsModel$State" ({ cls := "LaneCrowdsModel$State", name := "seenBy", desc := "(I)I" } : Jvm.MethodName) ({ cls := "LaneCrowdsModel$State", name := "seenBy", desc := "(I)I" } : Jvm.MethodName)) ∈ lw_all := lw_g (lw_at lw_m4 142 rfl) rfl
theorem q899 : (Jvm.Cond.code ({ cls := "LaneCrowdsModel$State", name := "seenBy", desc := "(I)I" } : Jvm.MethodName) prog_7_method_13_code (4 : Nat) (Option.some Jvm.ClassFile.FieldType.int)) ∈ lw_all := lw_g (lw_at lw_m4 143 rfl) rfl
theorem q900 : (Jvm.Cond.methodLink "LaneCrowdsModel$State" (105 : Nat) ({ cls := "LaneCrowdsModel$State", name := "sees", desc := "(II)Z" } : Jvm.MethodName)) ∈ lw_all := lw_g (lw_at lw_m4 144 rfl) rfl
theorem q901 : (Jvm.Cond.instanceMethod ({ cls := "LaneCrowdsModel$State", name := "sees", desc := "(II)Z" } : Jvm.MethodName)) ∈ lw_all := lw_g (lw_at lw_m4 145 rfl) rfl
theorem q902 : (Jvm.Cond.selects "LaneCrowdsModel$State" ({ cls := "LaneCrowdsModel$State", name := "sees", desc := "(II)Z" } : Jvm.MethodName) ({ cls := "LaneCrowdsModel$State", name := "sees", desc := "(II)Z" } : Jvm.MethodName)) ∈ lw_all := lw_g (lw_at lw_m4 146 rfl) rfl
theorem q903 : (Jvm.Cond.code ({ cls := "LaneCrowdsModel$State", name := "sees", desc := "(II)Z" } : Jvm.MethodName) prog_7_method_12_code (8 : Nat) (Option.some Jvm.ClassFile.FieldType.boolean)) ∈ lw_all := lw_g (lw_at lw_m4 147 rfl) rfl
theorem q904 : (Jvm.Cond.methodLink "LaneCrowdsModel$State" (94 : Nat) ({ cls := "java/lang/Math", name := "abs", desc := "(I)I" } : Jvm.MethodName)) ∈ lw_all := lw_g (lw_at lw_m4 148 rfl) rfl
theorem q905 : (Jvm.Cond.methodLink "LaneCrowdsModel$State" (100 : Nat) ({ cls := "java/lang/Integer", name := "signum", desc := "(I)I" } : Jvm.MethodName)) ∈ lw_all := lw_g (lw_at lw_m4 149 rfl) rfl
theorem q932 : (Jvm.Cond.instanceMethod ({ cls := "LaneCrowdsModel$State", name := "barricades", desc := "()I" } : Jvm.MethodName)) ∈ lw_all := lw_g (lw_at lw_m4 176 rfl) rfl
theorem q933 : (Jvm.Cond.selects "LaneCrowdsModel$State" ({ cls := "LaneCrowdsModel$State", name := "barricades", desc := "()I" } : Jvm.MethodName) ({ cls := "LaneCrowdsModel$State", name := "barricades", desc := "()I" } : Jvm.MethodName)) ∈ lw_all := lw_g (lw_at lw_m4 177 rfl) rfl
theorem q934 : (Jvm.Cond.code ({ cls := "LaneCrowdsModel$State", name := "barricades", desc := "()I" } : Jvm.MethodName) prog_7_method_16_code (6 : Nat) (Option.some Jvm.ClassFile.FieldType.int)) ∈ lw_all := lw_g (lw_at lw_m4 178 rfl) rfl
theorem q935 : (Jvm.Cond.methodLink "LaneCrowdsModel$State" (118 : Nat) ({ cls := "java/lang/Math", name := "max", desc := "(II)I" } : Jvm.MethodName)) ∈ lw_all := lw_g (lw_at lw_m4 179 rfl) rfl
theorem q941 : (Jvm.Cond.instanceMethod ({ cls := "LaneCrowdsModel$State", name := "allPeople", desc := "()I" } : Jvm.MethodName)) ∈ lw_all := lw_g (lw_at lw_m4 185 rfl) rfl
theorem q942 : (Jvm.Cond.selects "LaneCrowdsModel$State" ({ cls := "LaneCrowdsModel$State", name := "allPeople", desc := "()I" } : Jvm.MethodName) ({ cls := "LaneCrowdsModel$State", name := "allPeople", desc := "()I" } : Jvm.MethodName)) ∈ lw_all := lw_g (lw_at lw_m4 186 rfl) rfl
theorem q943 : (Jvm.Cond.code ({ cls := "LaneCrowdsModel$State", name := "allPeople", desc := "()I" } : Jvm.MethodName) prog_7_method_15_code (3 : Nat) (Option.some Jvm.ClassFile.FieldType.int)) ∈ lw_all := lw_g (lw_at lw_m4 187 rfl) rfl
theorem q960 : (Jvm.Cond.instanceMethod ({ cls := "LaneCrowdsModel$State", name := "shuts", desc := "()I" } : Jvm.MethodName)) ∈ lw_all := lw_g (lw_at lw_m4 204 rfl) rfl
theorem q961 : (Jvm.Cond.selects "LaneCrowdsModel$State" ({ cls := "LaneCrowdsModel$State", name := "shuts", desc := "()I" } : Jvm.MethodName) ({ cls := "LaneCrowdsModel$State", name := "shuts", desc := "()I" } : Jvm.MethodName)) ∈ lw_all := lw_g (lw_at lw_m4 205 rfl) rfl
theorem q962 : (Jvm.Cond.code ({ cls := "LaneCrowdsModel$State", name := "shuts", desc := "()I" } : Jvm.MethodName) prog_7_method_17_code (4 : Nat) (Option.some Jvm.ClassFile.FieldType.int)) ∈ lw_all := lw_g (lw_at lw_m4 206 rfl) rfl
theorem q963 : (Jvm.Cond.methodLink "LaneCrowdsModel$State" (124 : Nat) ({ cls := "LaneCrowdsModel$State", name := "cost", desc := "(I)I" } : Jvm.MethodName)) ∈ lw_all := lw_g (lw_at lw_m4 207 rfl) rfl
theorem q964 : (Jvm.Cond.privateMethod ({ cls := "LaneCrowdsModel$State", name := "cost", desc := "(I)I" } : Jvm.MethodName)) ∈ lw_tbl := lw_at lw_m4 208 rfl
theorem q965 : (Jvm.Cond.instanceMethod ({ cls := "LaneCrowdsModel$State", name := "cost", desc := "(I)I" } : Jvm.MethodName)) ∈ lw_all := lw_g (lw_at lw_m4 209 rfl) rfl
theorem q966 : (Jvm.Cond.code ({ cls := "LaneCrowdsModel$State", name := "cost", desc := "(I)I" } : Jvm.MethodName) prog_7_method_18_code (2 : Nat) (Option.some Jvm.ClassFile.FieldType.int)) ∈ lw_all := lw_g (lw_at lw_m4 210 rfl) rfl
theorem q967 : (Jvm.Cond.methodLink "LaneCrowdsModel$State" (127 : Nat) ({ cls := "LaneCrowdsModel$State", name := "leastBeside", desc := "(I)I" } : Jvm.MethodName)) ∈ lw_all := lw_g (lw_at lw_m4 211 rfl) rfl
theorem q968 : (Jvm.Cond.privateMethod ({ cls := "LaneCrowdsModel$State", name := "leastBeside", desc := "(I)I" } : Jvm.MethodName)) ∈ lw_tbl := lw_at lw_m4 212 rfl
theorem q969 : (Jvm.Cond.instanceMethod ({ cls := "LaneCrowdsModel$State", name := "leastBeside", desc := "(I)I" } : Jvm.MethodName)) ∈ lw_all := lw_g (lw_at lw_m4 213 rfl) rfl
theorem q970 : (Jvm.Cond.code ({ cls := "LaneCrowdsModel$State", name := "leastBeside", desc := "(I)I" } : Jvm.MethodName) prog_7_method_19_code (7 : Nat) (Option.some Jvm.ClassFile.FieldType.int)) ∈ lw_all := lw_g (lw_at lw_m4 214 rfl) rfl
theorem q971 : (Jvm.Cond.methodLink "LaneCrowdsModel$State" (130 : Nat) ({ cls := "java/lang/Math", name := "min", desc := "(II)I" } : Jvm.MethodName)) ∈ lw_all := lw_g (lw_at lw_m4 215 rfl) rfl
theorem q977 : (Jvm.Cond.instanceMethod ({ cls := "LaneCrowdsModel$State", name := "pass", desc := "()V" } : Jvm.MethodName)) ∈ lw_all := lw_g (lw_at lw_m4 221 rfl) rfl
theorem q978 : (Jvm.Cond.selects "LaneCrowdsModel$State" ({ cls := "LaneCrowdsModel$State", name := "pass", desc := "()V" } : Jvm.MethodName) ({ cls := "LaneCrowdsModel$State", name := "pass", desc := "()V" } : Jvm.MethodName)) ∈ lw_all := lw_g (lw_at lw_m4 222 rfl) rfl
theorem q979 : (Jvm.Cond.code ({ cls := "LaneCrowdsModel$State", name := "pass", desc := "()V" } : Jvm.MethodName) prog_7_method_14_code (2 : Nat) (Option.none : Option Jvm.ClassFile.FieldType)) ∈ lw_all := lw_g (lw_at lw_m4 223 rfl) rfl
theorem q980 : (Jvm.Cond.methodLink "LaneCrowdsModel$State" (108 : Nat) ({ cls := "LaneCrowdsModel$State", name := "act", desc := "(I)V" } : Jvm.MethodName)) ∈ lw_all := lw_g (lw_at lw_m4 224 rfl) rfl
theorem q981 : (Jvm.Cond.privateMethod ({ cls := "LaneCrowdsModel$State", name := "act", desc := "(I)V" } : Jvm.MethodName)) ∈ lw_tbl := lw_at lw_m4 225 rfl
theorem q982 : (Jvm.Cond.instanceMethod ({ cls := "LaneCrowdsModel$State", name := "act", desc := "(I)V" } : Jvm.MethodName)) ∈ lw_all := lw_g (lw_at lw_m4 226 rfl) rfl
theorem q983 : (Jvm.Cond.code ({ cls := "LaneCrowdsModel$State", name := "act", desc := "(I)V" } : Jvm.MethodName) prog_7_method_10_code (3 : Nat) (Option.none : Option Jvm.ClassFile.FieldType)) ∈ lw_all := lw_g (lw_at lw_m4 227 rfl) rfl
theorem q984 : (Jvm.Cond.methodLink "LaneCrowdsModel$State" (43 : Nat) ({ cls := "java/lang/System", name := "arraycopy", desc := "(Ljava/lang/Object;ILjava/lang/Object;II)V" } : Jvm.MethodName)) ∈ lw_all := lw_g (lw_at lw_m4 228 rfl) rfl
theorem q985 : (Jvm.Cond.methodLink "LaneCrowdsModel$State" (85 : Nat) ({ cls := "LaneCrowdsModel$State", name := "carriesOut", desc := "(II)Z" } : Jvm.MethodName)) ∈ lw_all := lw_g (lw_at lw_m4 229 rfl) rfl
theorem q986 : (Jvm.Cond.privateMethod ({ cls := "LaneCrowdsModel$State", name := "carriesOut", desc := "(II)Z" } : Jvm.MethodName)) ∈ lw_tbl := lw_at lw_m4 230 rfl
theorem q987 : (Jvm.Cond.instanceMethod ({ cls := "LaneCrowdsModel$State", name := "carriesOut", desc := "(II)Z" } : Jvm.MethodName)) ∈ lw_all := lw_g (lw_at lw_m4 231 rfl) rfl
theorem q988 : (Jvm.Cond.code ({ cls := "LaneCrowdsModel$State", name := "carriesOut", desc := "(II)Z" } : Jvm.MethodName) prog_7_method_9_code (4 : Nat) (Option.some Jvm.ClassFile.FieldType.boolean)) ∈ lw_all := lw_g (lw_at lw_m4 232 rfl) rfl
theorem q989 : (Jvm.Cond.methodLinkNest "LaneCrowdsModel$State" (70 : Nat) ({ cls := "LaneCrowdsModel", name := "beside", desc := "(II)I" } : Jvm.MethodName) "LaneCrowdsModel") ∈ lw_tbl := lw_at lw_m4 233 rfl
theorem q990 : (Jvm.Cond.methodLink "LaneCrowdsModel$State" (74 : Nat) ({ cls := "LaneCrowdsModel$State", name := "pulls", desc := "(I)Z" } : Jvm.MethodName)) ∈ lw_all := lw_g (lw_at lw_m4 234 rfl) rfl
theorem q991 : (Jvm.Cond.privateMethod ({ cls := "LaneCrowdsModel$State", name := "pulls", desc := "(I)Z" } : Jvm.MethodName)) ∈ lw_tbl := lw_at lw_m4 235 rfl
theorem q992 : (Jvm.Cond.instanceMethod ({ cls := "LaneCrowdsModel$State", name := "pulls", desc := "(I)Z" } : Jvm.MethodName)) ∈ lw_all := lw_g (lw_at lw_m4 236 rfl) rfl
theorem q993 : (Jvm.Cond.code ({ cls := "LaneCrowdsModel$State", name := "pulls", desc := "(I)Z" } : Jvm.MethodName) prog_7_method_8_code (2 : Nat) (Option.some Jvm.ClassFile.FieldType.boolean)) ∈ lw_all := lw_g (lw_at lw_m4 237 rfl) rfl
theorem q994 : (Jvm.Cond.methodLink "LaneCrowdsModel$State" (63 : Nat) ({ cls := "LaneCrowdsModel$State", name := "isLane", desc := "(I)Z" } : Jvm.MethodName)) ∈ lw_all := lw_g (lw_at lw_m4 238 rfl) rfl
theorem q995 : (Jvm.Cond.privateMethod ({ cls := "LaneCrowdsModel$State", name := "isLane", desc := "(I)Z" } : Jvm.MethodName)) ∈ lw_tbl := lw_at lw_m4 239 rfl
theorem q996 : (Jvm.Cond.instanceMethod ({ cls := "LaneCrowdsModel$State", name := "isLane", desc := "(I)Z" } : Jvm.MethodName)) ∈ lw_all := lw_g (lw_at lw_m5 0 rfl) rfl
theorem q997 : (Jvm.Cond.code ({ cls := "LaneCrowdsModel$State", name := "isLane", desc := "(I)Z" } : Jvm.MethodName) prog_7_method_5_code (2 : Nat) (Option.some Jvm.ClassFile.FieldType.boolean)) ∈ lw_all := lw_g (lw_at lw_m5 1 rfl) rfl
theorem q998 : (Jvm.Cond.methodLink "LaneCrowdsModel$State" (77 : Nat) ({ cls := "LaneCrowdsModel$State", name := "raises", desc := "(II)Z" } : Jvm.MethodName)) ∈ lw_all := lw_g (lw_at lw_m5 2 rfl) rfl
theorem q999 : (Jvm.Cond.privateMethod ({ cls := "LaneCrowdsModel$State", name := "raises", desc := "(II)Z" } : Jvm.MethodName)) ∈ lw_tbl := lw_at lw_m5 3 rfl
theorem q1000 : (Jvm.Cond.instanceMethod ({ cls := "LaneCrowdsModel$State", name := "raises", desc := "(II)Z" } : Jvm.MethodName)) ∈ lw_all := lw_g (lw_at lw_m5 4 rfl) rfl
theorem q1001 : (Jvm.Cond.code ({ cls := "LaneCrowdsModel$State", name := "raises", desc := "(II)Z" } : Jvm.MethodName) prog_7_method_7_code (3 : Nat) (Option.some Jvm.ClassFile.FieldType.boolean)) ∈ lw_all := lw_g (lw_at lw_m5 5 rfl) rfl
theorem q1002 : (Jvm.Cond.methodLink "LaneCrowdsModel$State" (67 : Nat) ({ cls := "LaneCrowdsModel$State", name := "isBusy", desc := "(I)Z" } : Jvm.MethodName)) ∈ lw_all := lw_g (lw_at lw_m5 6 rfl) rfl
theorem q1003 : (Jvm.Cond.methodLink "LaneCrowdsModel$State" (81 : Nat) ({ cls := "LaneCrowdsModel$State", name := "goes", desc := "(III)Z" } : Jvm.MethodName)) ∈ lw_all := lw_g (lw_at lw_m5 7 rfl) rfl
theorem q1004 : (Jvm.Cond.privateMethod ({ cls := "LaneCrowdsModel$State", name := "goes", desc := "(III)Z" } : Jvm.MethodName)) ∈ lw_tbl := lw_at lw_m5 8 rfl
theorem q1005 : (Jvm.Cond.instanceMethod ({ cls := "LaneCrowdsModel$State", name := "goes", desc := "(III)Z" } : Jvm.MethodName)) ∈ lw_all := lw_g (lw_at lw_m5 9 rfl) rfl
theorem q1006 : (Jvm.Cond.code ({ cls := "LaneCrowdsModel$State", name := "goes", desc := "(III)Z" } : Jvm.MethodName) prog_7_method_6_code (5 : Nat) (Option.some Jvm.ClassFile.FieldType.boolean)) ∈ lw_all := lw_g (lw_at lw_m5 10 rfl) rfl
theorem q1007 : (Jvm.Cond.methodLink "LaneCrowdsModel$State" (112 : Nat) ({ cls := "LaneCrowdsModel$State", name := "patrol", desc := "(I)V" } : Jvm.MethodName)) ∈ lw_all := lw_g (lw_at lw_m5 11 rfl) rfl
theorem q1008 : (Jvm.Cond.privateMethod ({ cls := "LaneCrowdsModel$State", name := "patrol", desc := "(I)V" } : Jvm.MethodName)) ∈ lw_tbl := lw_at lw_m5 12 rfl
theorem q1009 : (Jvm.Cond.instanceMethod ({ cls := "LaneCrowdsModel$State", name := "patrol", desc := "(I)V" } : Jvm.MethodName)) ∈ lw_all := lw_g (lw_at lw_m5 13 rfl) rfl
theorem q1010 : (Jvm.Cond.code ({ cls := "LaneCrowdsModel$State", name := "patrol", desc := "(I)V" } : Jvm.MethodName) prog_7_method_11_code (3 : Nat) (Option.none : Option Jvm.ClassFile.FieldType)) ∈ lw_all := lw_g (lw_at lw_m5 14 rfl) rfl
theorem q1011 : (Jvm.Cond.methodLink "LaneCrowdsModel$State" (115 : Nat) ({ cls := "LaneCrowdsModel$State", name := "seenBy", desc := "(I)I" } : Jvm.MethodName)) ∈ lw_all := lw_g (lw_at lw_m5 15 rfl) rfl
theorem q1017 : (Jvm.Cond.instanceMethod ({ cls := "LaneCrowdsModel$State", name := "become", desc := "(LLaneCrowdsModel$State;)V" } : Jvm.MethodName)) ∈ lw_all := lw_g (lw_at lw_m5 21 rfl) rfl
theorem q1018 : (Jvm.Cond.selects "LaneCrowdsModel$State" ({ cls := "LaneCrowdsModel$State", name := "become", desc := "(LLaneCrowdsModel$State;)V" } : Jvm.MethodName) ({ cls := "LaneCrowdsModel$State", name := "become", desc := "(LLaneCrowdsModel$State;)V" } : Jvm.MethodName)) ∈ lw_all := lw_g (lw_at lw_m5 22 rfl) rfl
theorem q1019 : (Jvm.Cond.code ({ cls := "LaneCrowdsModel$State", name := "become", desc := "(LLaneCrowdsModel$State;)V" } : Jvm.MethodName) prog_7_method_3_code (2 : Nat) (Option.none : Option Jvm.ClassFile.FieldType)) ∈ lw_all := lw_g (lw_at lw_m5 23 rfl) rfl
theorem q1020 : (Jvm.Cond.methodLink "LaneCrowdsModel$State" (53 : Nat) ({ cls := "LaneCrowdsModel$State", name := "copy", desc := "([I[I)V" } : Jvm.MethodName)) ∈ lw_all := lw_g (lw_at lw_m5 24 rfl) rfl
theorem q1021 : (Jvm.Cond.privateMethod ({ cls := "LaneCrowdsModel$State", name := "copy", desc := "([I[I)V" } : Jvm.MethodName)) ∈ lw_tbl := lw_at lw_m5 25 rfl
theorem q1022 : (Jvm.Cond.instanceMethod ({ cls := "LaneCrowdsModel$State", name := "copy", desc := "([I[I)V" } : Jvm.MethodName)) ∈ lw_all := lw_g (lw_at lw_m5 26 rfl) rfl
theorem q1023 : (Jvm.Cond.code ({ cls := "LaneCrowdsModel$State", name := "copy", desc := "([I[I)V" } : Jvm.MethodName) prog_7_method_2_code (3 : Nat) (Option.none : Option Jvm.ClassFile.FieldType)) ∈ lw_all := lw_g (lw_at lw_m5 27 rfl) rfl
theorem q1046 : (Jvm.Cond.castable "LaneCrowdsModel$State" "java/lang/Object") ∈ lw_tbl := lw_at lw_m5 50 rfl
theorem in_X4 : ∀ w ∈ wsX40, w ∈ lw_all := lw_in wsX40 [782, 784, 786, 788, 790, 792, 794, 796, 798, 800, 802] (by decide +kernel) (by decide +kernel)
