/-! LaneCrowdsLaw -/
set_option maxRecDepth 100000
def RX0 : String := "LaneCrowdsLaw"
abbrev cX0_house : ByteArray := method_3_code
def yX0_house : MethodName := ⟨RX0, "house", "(LLaneCrowds;II[J)I"⟩
def dkwX0_house_1 : List UInt8 := [58, 4, 5, 172, 3, 172]
abbrev dktX0_house_1 : List UInt8 := dkwX0_house_1 ++ []
def dkwX0_house_0 : List UInt8 := [45, 3, 42, 27, 28, 182, 0, 7, 153, 0, 7, 10, 167, 0, 4, 9, 80, 167, 0, 11, 58, 4, 4, 172]
abbrev dktX0_house_0 : List UInt8 := dkwX0_house_0 ++ dktX0_house_1
theorem dksX0_house_0 : cX0_house.data.toList.drop 0 = dktX0_house_0 := by decide +kernel
theorem dksX0_house_1 : cX0_house.data.toList.drop 24 = dktX0_house_1 := dk_seg dksX0_house_0 24 rfl rfl
theorem dX0_house_0 : decode cX0_house 0 = .ok (.aload_n 3, 1) := dk_45 (dk_at dksX0_house_0 0 rfl rfl)
theorem dX0_house_1 : decode cX0_house 1 = .ok (.iconst 0, 1) := dk_3 (dk_at dksX0_house_0 1 rfl rfl)
theorem dX0_house_2 : decode cX0_house 2 = .ok (.aload_n 0, 1) := dk_42 (dk_at dksX0_house_0 2 rfl rfl)
theorem dX0_house_3 : decode cX0_house 3 = .ok (.iload_n 1, 1) := dk_27 (dk_at dksX0_house_0 3 rfl rfl)
theorem dX0_house_4 : decode cX0_house 4 = .ok (.iload_n 2, 1) := dk_28 (dk_at dksX0_house_0 4 rfl rfl)
theorem dX0_house_5 : decode cX0_house 5 = .ok (.invokevirtual 7, 3) := dk_182 0 7 (dk_at dksX0_house_0 5 rfl rfl)
theorem dX0_house_8 : decode cX0_house 8 = .ok (.ifCond .eq 7, 3) := dk_153 0 7 (dk_at dksX0_house_0 8 rfl rfl)
theorem dX0_house_11 : decode cX0_house 11 = .ok (.lconst 1, 1) := dk_10 (dk_at dksX0_house_0 11 rfl rfl)
theorem dX0_house_12 : decode cX0_house 12 = .ok (.goto 4, 3) := dk_167 0 4 (dk_at dksX0_house_0 12 rfl rfl)
theorem dX0_house_15 : decode cX0_house 15 = .ok (.lconst 0, 1) := dk_9 (dk_at dksX0_house_0 15 rfl rfl)
theorem dX0_house_16 : decode cX0_house 16 = .ok (.lastore, 1) := dk_80 (dk_at dksX0_house_0 16 rfl rfl)
theorem dX0_house_17 : decode cX0_house 17 = .ok (.goto 11, 3) := dk_167 0 11 (dk_at dksX0_house_0 17 rfl rfl)
theorem dX0_house_20 : decode cX0_house 20 = .ok (.astore 4, 2) := dk_58 4 (dk_at dksX0_house_0 20 rfl rfl)
theorem dX0_house_22 : decode cX0_house 22 = .ok (.iconst 1, 1) := dk_4 (dk_at dksX0_house_0 22 rfl rfl)
theorem dX0_house_23 : decode cX0_house 23 = .ok (.ireturn, 1) := dk_172 (dk_at dksX0_house_0 23 rfl rfl)
theorem dX0_house_24 : decode cX0_house 24 = .ok (.astore 4, 2) := dk_58 4 (dk_at dksX0_house_1 0 rfl rfl)
theorem dX0_house_26 : decode cX0_house 26 = .ok (.iconst 2, 1) := dk_5 (dk_at dksX0_house_1 2 rfl rfl)
theorem dX0_house_27 : decode cX0_house 27 = .ok (.ireturn, 1) := dk_172 (dk_at dksX0_house_1 3 rfl rfl)
theorem dX0_house_28 : decode cX0_house 28 = .ok (.iconst 0, 1) := dk_3 (dk_at dksX0_house_1 4 rfl rfl)
theorem dX0_house_29 : decode cX0_house 29 = .ok (.ireturn, 1) := dk_172 (dk_at dksX0_house_1 5 rfl rfl)
abbrev cX0_block : ByteArray := method_4_code
def yX0_block : MethodName := ⟨RX0, "block", "(LLaneCrowds;III[J)I"⟩
def dkwX0_block_1 : List UInt8 := [58, 5, 6, 172, 3, 172]
abbrev dktX0_block_1 : List UInt8 := dkwX0_block_1 ++ []
def dkwX0_block_0 : List UInt8 := [25, 4, 3, 42, 27, 28, 29, 182, 0, 17, 133, 80, 167, 0, 15, 58, 5, 4, 172, 58, 5, 5, 172]
abbrev dktX0_block_0 : List UInt8 := dkwX0_block_0 ++ dktX0_block_1
theorem dksX0_block_0 : cX0_block.data.toList.drop 0 = dktX0_block_0 := by decide +kernel
theorem dksX0_block_1 : cX0_block.data.toList.drop 23 = dktX0_block_1 := dk_seg dksX0_block_0 23 rfl rfl
theorem dX0_block_0 : decode cX0_block 0 = .ok (.aload 4, 2) := dk_25 4 (dk_at dksX0_block_0 0 rfl rfl)
theorem dX0_block_2 : decode cX0_block 2 = .ok (.iconst 0, 1) := dk_3 (dk_at dksX0_block_0 2 rfl rfl)
theorem dX0_block_3 : decode cX0_block 3 = .ok (.aload_n 0, 1) := dk_42 (dk_at dksX0_block_0 3 rfl rfl)
theorem dX0_block_4 : decode cX0_block 4 = .ok (.iload_n 1, 1) := dk_27 (dk_at dksX0_block_0 4 rfl rfl)
theorem dX0_block_5 : decode cX0_block 5 = .ok (.iload_n 2, 1) := dk_28 (dk_at dksX0_block_0 5 rfl rfl)
theorem dX0_block_6 : decode cX0_block 6 = .ok (.iload_n 3, 1) := dk_29 (dk_at dksX0_block_0 6 rfl rfl)
theorem dX0_block_7 : decode cX0_block 7 = .ok (.invokevirtual 17, 3) := dk_182 0 17 (dk_at dksX0_block_0 7 rfl rfl)
theorem dX0_block_10 : decode cX0_block 10 = .ok (.i2l, 1) := dk_133 (dk_at dksX0_block_0 10 rfl rfl)
theorem dX0_block_11 : decode cX0_block 11 = .ok (.lastore, 1) := dk_80 (dk_at dksX0_block_0 11 rfl rfl)
theorem dX0_block_12 : decode cX0_block 12 = .ok (.goto 15, 3) := dk_167 0 15 (dk_at dksX0_block_0 12 rfl rfl)
theorem dX0_block_15 : decode cX0_block 15 = .ok (.astore 5, 2) := dk_58 5 (dk_at dksX0_block_0 15 rfl rfl)
theorem dX0_block_17 : decode cX0_block 17 = .ok (.iconst 1, 1) := dk_4 (dk_at dksX0_block_0 17 rfl rfl)
theorem dX0_block_18 : decode cX0_block 18 = .ok (.ireturn, 1) := dk_172 (dk_at dksX0_block_0 18 rfl rfl)
theorem dX0_block_19 : decode cX0_block 19 = .ok (.astore 5, 2) := dk_58 5 (dk_at dksX0_block_0 19 rfl rfl)
theorem dX0_block_21 : decode cX0_block 21 = .ok (.iconst 2, 1) := dk_5 (dk_at dksX0_block_0 21 rfl rfl)
theorem dX0_block_22 : decode cX0_block 22 = .ok (.ireturn, 1) := dk_172 (dk_at dksX0_block_0 22 rfl rfl)
theorem dX0_block_23 : decode cX0_block 23 = .ok (.astore 5, 2) := dk_58 5 (dk_at dksX0_block_1 0 rfl rfl)
theorem dX0_block_25 : decode cX0_block 25 = .ok (.iconst 3, 1) := dk_6 (dk_at dksX0_block_1 2 rfl rfl)
theorem dX0_block_26 : decode cX0_block 26 = .ok (.ireturn, 1) := dk_172 (dk_at dksX0_block_1 3 rfl rfl)
theorem dX0_block_27 : decode cX0_block 27 = .ok (.iconst 0, 1) := dk_3 (dk_at dksX0_block_1 4 rfl rfl)
theorem dX0_block_28 : decode cX0_block 28 = .ok (.ireturn, 1) := dk_172 (dk_at dksX0_block_1 5 rfl rfl)
abbrev cX0_cell : ByteArray := method_5_code
def yX0_cell : MethodName := ⟨RX0, "cell", "(LLaneCrowds;II[J)I"⟩
def dkwX0_cell_0 : List UInt8 := [45, 3, 42, 27, 28, 182, 0, 23, 133, 80, 167, 0, 7, 58, 4, 4, 172, 3, 172]
abbrev dktX0_cell_0 : List UInt8 := dkwX0_cell_0 ++ []
theorem dksX0_cell_0 : cX0_cell.data.toList.drop 0 = dktX0_cell_0 := by decide +kernel
theorem dX0_cell_0 : decode cX0_cell 0 = .ok (.aload_n 3, 1) := dk_45 (dk_at dksX0_cell_0 0 rfl rfl)
theorem dX0_cell_1 : decode cX0_cell 1 = .ok (.iconst 0, 1) := dk_3 (dk_at dksX0_cell_0 1 rfl rfl)
theorem dX0_cell_2 : decode cX0_cell 2 = .ok (.aload_n 0, 1) := dk_42 (dk_at dksX0_cell_0 2 rfl rfl)
theorem dX0_cell_3 : decode cX0_cell 3 = .ok (.iload_n 1, 1) := dk_27 (dk_at dksX0_cell_0 3 rfl rfl)
theorem dX0_cell_4 : decode cX0_cell 4 = .ok (.iload_n 2, 1) := dk_28 (dk_at dksX0_cell_0 4 rfl rfl)
theorem dX0_cell_5 : decode cX0_cell 5 = .ok (.invokevirtual 23, 3) := dk_182 0 23 (dk_at dksX0_cell_0 5 rfl rfl)
theorem dX0_cell_8 : decode cX0_cell 8 = .ok (.i2l, 1) := dk_133 (dk_at dksX0_cell_0 8 rfl rfl)
theorem dX0_cell_9 : decode cX0_cell 9 = .ok (.lastore, 1) := dk_80 (dk_at dksX0_cell_0 9 rfl rfl)
theorem dX0_cell_10 : decode cX0_cell 10 = .ok (.goto 7, 3) := dk_167 0 7 (dk_at dksX0_cell_0 10 rfl rfl)
theorem dX0_cell_13 : decode cX0_cell 13 = .ok (.astore 4, 2) := dk_58 4 (dk_at dksX0_cell_0 13 rfl rfl)
theorem dX0_cell_15 : decode cX0_cell 15 = .ok (.iconst 1, 1) := dk_4 (dk_at dksX0_cell_0 15 rfl rfl)
theorem dX0_cell_16 : decode cX0_cell 16 = .ok (.ireturn, 1) := dk_172 (dk_at dksX0_cell_0 16 rfl rfl)
theorem dX0_cell_17 : decode cX0_cell 17 = .ok (.iconst 0, 1) := dk_3 (dk_at dksX0_cell_0 17 rfl rfl)
theorem dX0_cell_18 : decode cX0_cell 18 = .ok (.ireturn, 1) := dk_172 (dk_at dksX0_cell_0 18 rfl rfl)
abbrev cX0_gather : ByteArray := method_6_code
def yX0_gather : MethodName := ⟨RX0, "gather", "(LLaneCrowds;III[J)I"⟩
def dkwX0_gather_1 : List UInt8 := [58, 5, 6, 172, 3, 172]
abbrev dktX0_gather_1 : List UInt8 := dkwX0_gather_1 ++ []
def dkwX0_gather_0 : List UInt8 := [25, 4, 3, 42, 27, 28, 29, 182, 0, 27, 133, 80, 167, 0, 15, 58, 5, 4, 172, 58, 5, 5, 172]
abbrev dktX0_gather_0 : List UInt8 := dkwX0_gather_0 ++ dktX0_gather_1
theorem dksX0_gather_0 : cX0_gather.data.toList.drop 0 = dktX0_gather_0 := by decide +kernel
theorem dksX0_gather_1 : cX0_gather.data.toList.drop 23 = dktX0_gather_1 := dk_seg dksX0_gather_0 23 rfl rfl
theorem dX0_gather_0 : decode cX0_gather 0 = .ok (.aload 4, 2) := dk_25 4 (dk_at dksX0_gather_0 0 rfl rfl)
theorem dX0_gather_2 : decode cX0_gather 2 = .ok (.iconst 0, 1) := dk_3 (dk_at dksX0_gather_0 2 rfl rfl)
theorem dX0_gather_3 : decode cX0_gather 3 = .ok (.aload_n 0, 1) := dk_42 (dk_at dksX0_gather_0 3 rfl rfl)
theorem dX0_gather_4 : decode cX0_gather 4 = .ok (.iload_n 1, 1) := dk_27 (dk_at dksX0_gather_0 4 rfl rfl)
theorem dX0_gather_5 : decode cX0_gather 5 = .ok (.iload_n 2, 1) := dk_28 (dk_at dksX0_gather_0 5 rfl rfl)
theorem dX0_gather_6 : decode cX0_gather 6 = .ok (.iload_n 3, 1) := dk_29 (dk_at dksX0_gather_0 6 rfl rfl)
theorem dX0_gather_7 : decode cX0_gather 7 = .ok (.invokevirtual 27, 3) := dk_182 0 27 (dk_at dksX0_gather_0 7 rfl rfl)
theorem dX0_gather_10 : decode cX0_gather 10 = .ok (.i2l, 1) := dk_133 (dk_at dksX0_gather_0 10 rfl rfl)
theorem dX0_gather_11 : decode cX0_gather 11 = .ok (.lastore, 1) := dk_80 (dk_at dksX0_gather_0 11 rfl rfl)
theorem dX0_gather_12 : decode cX0_gather 12 = .ok (.goto 15, 3) := dk_167 0 15 (dk_at dksX0_gather_0 12 rfl rfl)
theorem dX0_gather_15 : decode cX0_gather 15 = .ok (.astore 5, 2) := dk_58 5 (dk_at dksX0_gather_0 15 rfl rfl)
theorem dX0_gather_17 : decode cX0_gather 17 = .ok (.iconst 1, 1) := dk_4 (dk_at dksX0_gather_0 17 rfl rfl)
theorem dX0_gather_18 : decode cX0_gather 18 = .ok (.ireturn, 1) := dk_172 (dk_at dksX0_gather_0 18 rfl rfl)
theorem dX0_gather_19 : decode cX0_gather 19 = .ok (.astore 5, 2) := dk_58 5 (dk_at dksX0_gather_0 19 rfl rfl)
theorem dX0_gather_21 : decode cX0_gather 21 = .ok (.iconst 2, 1) := dk_5 (dk_at dksX0_gather_0 21 rfl rfl)
theorem dX0_gather_22 : decode cX0_gather 22 = .ok (.ireturn, 1) := dk_172 (dk_at dksX0_gather_0 22 rfl rfl)
theorem dX0_gather_23 : decode cX0_gather 23 = .ok (.astore 5, 2) := dk_58 5 (dk_at dksX0_gather_1 0 rfl rfl)
theorem dX0_gather_25 : decode cX0_gather 25 = .ok (.iconst 3, 1) := dk_6 (dk_at dksX0_gather_1 2 rfl rfl)
theorem dX0_gather_26 : decode cX0_gather 26 = .ok (.ireturn, 1) := dk_172 (dk_at dksX0_gather_1 3 rfl rfl)
theorem dX0_gather_27 : decode cX0_gather 27 = .ok (.iconst 0, 1) := dk_3 (dk_at dksX0_gather_1 4 rfl rfl)
theorem dX0_gather_28 : decode cX0_gather 28 = .ok (.ireturn, 1) := dk_172 (dk_at dksX0_gather_1 5 rfl rfl)
abbrev cX0_order : ByteArray := method_7_code
def yX0_order : MethodName := ⟨RX0, "order", "(LLaneCrowds;II[J)I"⟩
def dkwX0_order_1 : List UInt8 := [172, 3, 172]
abbrev dktX0_order_1 : List UInt8 := dkwX0_order_1 ++ []
def dkwX0_order_0 : List UInt8 := [45, 3, 42, 27, 28, 182, 0, 30, 133, 80, 167, 0, 15, 58, 4, 4, 172, 58, 4, 5, 172, 58, 4, 6]
abbrev dktX0_order_0 : List UInt8 := dkwX0_order_0 ++ dktX0_order_1
theorem dksX0_order_0 : cX0_order.data.toList.drop 0 = dktX0_order_0 := by decide +kernel
theorem dksX0_order_1 : cX0_order.data.toList.drop 24 = dktX0_order_1 := dk_seg dksX0_order_0 24 rfl rfl
theorem dX0_order_0 : decode cX0_order 0 = .ok (.aload_n 3, 1) := dk_45 (dk_at dksX0_order_0 0 rfl rfl)
theorem dX0_order_1 : decode cX0_order 1 = .ok (.iconst 0, 1) := dk_3 (dk_at dksX0_order_0 1 rfl rfl)
theorem dX0_order_2 : decode cX0_order 2 = .ok (.aload_n 0, 1) := dk_42 (dk_at dksX0_order_0 2 rfl rfl)
theorem dX0_order_3 : decode cX0_order 3 = .ok (.iload_n 1, 1) := dk_27 (dk_at dksX0_order_0 3 rfl rfl)
theorem dX0_order_4 : decode cX0_order 4 = .ok (.iload_n 2, 1) := dk_28 (dk_at dksX0_order_0 4 rfl rfl)
theorem dX0_order_5 : decode cX0_order 5 = .ok (.invokevirtual 30, 3) := dk_182 0 30 (dk_at dksX0_order_0 5 rfl rfl)
theorem dX0_order_8 : decode cX0_order 8 = .ok (.i2l, 1) := dk_133 (dk_at dksX0_order_0 8 rfl rfl)
theorem dX0_order_9 : decode cX0_order 9 = .ok (.lastore, 1) := dk_80 (dk_at dksX0_order_0 9 rfl rfl)
theorem dX0_order_10 : decode cX0_order 10 = .ok (.goto 15, 3) := dk_167 0 15 (dk_at dksX0_order_0 10 rfl rfl)
theorem dX0_order_13 : decode cX0_order 13 = .ok (.astore 4, 2) := dk_58 4 (dk_at dksX0_order_0 13 rfl rfl)
theorem dX0_order_15 : decode cX0_order 15 = .ok (.iconst 1, 1) := dk_4 (dk_at dksX0_order_0 15 rfl rfl)
theorem dX0_order_16 : decode cX0_order 16 = .ok (.ireturn, 1) := dk_172 (dk_at dksX0_order_0 16 rfl rfl)
theorem dX0_order_17 : decode cX0_order 17 = .ok (.astore 4, 2) := dk_58 4 (dk_at dksX0_order_0 17 rfl rfl)
theorem dX0_order_19 : decode cX0_order 19 = .ok (.iconst 2, 1) := dk_5 (dk_at dksX0_order_0 19 rfl rfl)
theorem dX0_order_20 : decode cX0_order 20 = .ok (.ireturn, 1) := dk_172 (dk_at dksX0_order_0 20 rfl rfl)
theorem dX0_order_21 : decode cX0_order 21 = .ok (.astore 4, 2) := dk_58 4 (dk_at dksX0_order_0 21 rfl rfl)
theorem dX0_order_23 : decode cX0_order 23 = .ok (.iconst 3, 1) := dk_6 (dk_at dksX0_order_0 23 rfl rfl)
theorem dX0_order_24 : decode cX0_order 24 = .ok (.ireturn, 1) := dk_172 (dk_at dksX0_order_1 0 rfl rfl)
theorem dX0_order_25 : decode cX0_order 25 = .ok (.iconst 0, 1) := dk_3 (dk_at dksX0_order_1 1 rfl rfl)
theorem dX0_order_26 : decode cX0_order 26 = .ok (.ireturn, 1) := dk_172 (dk_at dksX0_order_1 2 rfl rfl)
abbrev cX0_torch : ByteArray := method_8_code
def yX0_torch : MethodName := ⟨RX0, "torch", "(LLaneCrowds;I[J)I"⟩
def dkwX0_torch_1 : List UInt8 := [172, 3, 172]
abbrev dktX0_torch_1 : List UInt8 := dkwX0_torch_1 ++ []
def dkwX0_torch_0 : List UInt8 := [44, 3, 42, 27, 182, 0, 33, 153, 0, 7, 10, 167, 0, 4, 9, 80, 167, 0, 9, 78, 4, 172, 78, 5]
abbrev dktX0_torch_0 : List UInt8 := dkwX0_torch_0 ++ dktX0_torch_1
theorem dksX0_torch_0 : cX0_torch.data.toList.drop 0 = dktX0_torch_0 := by decide +kernel
theorem dksX0_torch_1 : cX0_torch.data.toList.drop 24 = dktX0_torch_1 := dk_seg dksX0_torch_0 24 rfl rfl
theorem dX0_torch_0 : decode cX0_torch 0 = .ok (.aload_n 2, 1) := dk_44 (dk_at dksX0_torch_0 0 rfl rfl)
theorem dX0_torch_1 : decode cX0_torch 1 = .ok (.iconst 0, 1) := dk_3 (dk_at dksX0_torch_0 1 rfl rfl)
theorem dX0_torch_2 : decode cX0_torch 2 = .ok (.aload_n 0, 1) := dk_42 (dk_at dksX0_torch_0 2 rfl rfl)
theorem dX0_torch_3 : decode cX0_torch 3 = .ok (.iload_n 1, 1) := dk_27 (dk_at dksX0_torch_0 3 rfl rfl)
theorem dX0_torch_4 : decode cX0_torch 4 = .ok (.invokevirtual 33, 3) := dk_182 0 33 (dk_at dksX0_torch_0 4 rfl rfl)
theorem dX0_torch_7 : decode cX0_torch 7 = .ok (.ifCond .eq 7, 3) := dk_153 0 7 (dk_at dksX0_torch_0 7 rfl rfl)
theorem dX0_torch_10 : decode cX0_torch 10 = .ok (.lconst 1, 1) := dk_10 (dk_at dksX0_torch_0 10 rfl rfl)
theorem dX0_torch_11 : decode cX0_torch 11 = .ok (.goto 4, 3) := dk_167 0 4 (dk_at dksX0_torch_0 11 rfl rfl)
theorem dX0_torch_14 : decode cX0_torch 14 = .ok (.lconst 0, 1) := dk_9 (dk_at dksX0_torch_0 14 rfl rfl)
theorem dX0_torch_15 : decode cX0_torch 15 = .ok (.lastore, 1) := dk_80 (dk_at dksX0_torch_0 15 rfl rfl)
theorem dX0_torch_16 : decode cX0_torch 16 = .ok (.goto 9, 3) := dk_167 0 9 (dk_at dksX0_torch_0 16 rfl rfl)
theorem dX0_torch_19 : decode cX0_torch 19 = .ok (.astore_n 3, 1) := dk_78 (dk_at dksX0_torch_0 19 rfl rfl)
theorem dX0_torch_20 : decode cX0_torch 20 = .ok (.iconst 1, 1) := dk_4 (dk_at dksX0_torch_0 20 rfl rfl)
theorem dX0_torch_21 : decode cX0_torch 21 = .ok (.ireturn, 1) := dk_172 (dk_at dksX0_torch_0 21 rfl rfl)
theorem dX0_torch_22 : decode cX0_torch 22 = .ok (.astore_n 3, 1) := dk_78 (dk_at dksX0_torch_0 22 rfl rfl)
theorem dX0_torch_23 : decode cX0_torch 23 = .ok (.iconst 2, 1) := dk_5 (dk_at dksX0_torch_0 23 rfl rfl)
theorem dX0_torch_24 : decode cX0_torch 24 = .ok (.ireturn, 1) := dk_172 (dk_at dksX0_torch_1 0 rfl rfl)
theorem dX0_torch_25 : decode cX0_torch 25 = .ok (.iconst 0, 1) := dk_3 (dk_at dksX0_torch_1 1 rfl rfl)
theorem dX0_torch_26 : decode cX0_torch 26 = .ok (.ireturn, 1) := dk_172 (dk_at dksX0_torch_1 2 rfl rfl)
abbrev cX0_patrol : ByteArray := method_9_code
def yX0_patrol : MethodName := ⟨RX0, "patrol", "(LLaneCrowds;IIII[J)I"⟩
def dkwX0_patrol_1 : List UInt8 := [172, 58, 6, 6, 172, 3, 172]
abbrev dktX0_patrol_1 : List UInt8 := dkwX0_patrol_1 ++ []
def dkwX0_patrol_0 : List UInt8 := [25, 5, 3, 42, 27, 28, 29, 21, 4, 182, 0, 37, 133, 80, 167, 0, 15, 58, 6, 4, 172, 58, 6, 5]
abbrev dktX0_patrol_0 : List UInt8 := dkwX0_patrol_0 ++ dktX0_patrol_1
theorem dksX0_patrol_0 : cX0_patrol.data.toList.drop 0 = dktX0_patrol_0 := by decide +kernel
theorem dksX0_patrol_1 : cX0_patrol.data.toList.drop 24 = dktX0_patrol_1 := dk_seg dksX0_patrol_0 24 rfl rfl
theorem dX0_patrol_0 : decode cX0_patrol 0 = .ok (.aload 5, 2) := dk_25 5 (dk_at dksX0_patrol_0 0 rfl rfl)
theorem dX0_patrol_2 : decode cX0_patrol 2 = .ok (.iconst 0, 1) := dk_3 (dk_at dksX0_patrol_0 2 rfl rfl)
theorem dX0_patrol_3 : decode cX0_patrol 3 = .ok (.aload_n 0, 1) := dk_42 (dk_at dksX0_patrol_0 3 rfl rfl)
theorem dX0_patrol_4 : decode cX0_patrol 4 = .ok (.iload_n 1, 1) := dk_27 (dk_at dksX0_patrol_0 4 rfl rfl)
theorem dX0_patrol_5 : decode cX0_patrol 5 = .ok (.iload_n 2, 1) := dk_28 (dk_at dksX0_patrol_0 5 rfl rfl)
theorem dX0_patrol_6 : decode cX0_patrol 6 = .ok (.iload_n 3, 1) := dk_29 (dk_at dksX0_patrol_0 6 rfl rfl)
theorem dX0_patrol_7 : decode cX0_patrol 7 = .ok (.iload 4, 2) := dk_21 4 (dk_at dksX0_patrol_0 7 rfl rfl)
theorem dX0_patrol_9 : decode cX0_patrol 9 = .ok (.invokevirtual 37, 3) := dk_182 0 37 (dk_at dksX0_patrol_0 9 rfl rfl)
theorem dX0_patrol_12 : decode cX0_patrol 12 = .ok (.i2l, 1) := dk_133 (dk_at dksX0_patrol_0 12 rfl rfl)
theorem dX0_patrol_13 : decode cX0_patrol 13 = .ok (.lastore, 1) := dk_80 (dk_at dksX0_patrol_0 13 rfl rfl)
theorem dX0_patrol_14 : decode cX0_patrol 14 = .ok (.goto 15, 3) := dk_167 0 15 (dk_at dksX0_patrol_0 14 rfl rfl)
theorem dX0_patrol_17 : decode cX0_patrol 17 = .ok (.astore 6, 2) := dk_58 6 (dk_at dksX0_patrol_0 17 rfl rfl)
theorem dX0_patrol_19 : decode cX0_patrol 19 = .ok (.iconst 1, 1) := dk_4 (dk_at dksX0_patrol_0 19 rfl rfl)
theorem dX0_patrol_20 : decode cX0_patrol 20 = .ok (.ireturn, 1) := dk_172 (dk_at dksX0_patrol_0 20 rfl rfl)
theorem dX0_patrol_21 : decode cX0_patrol 21 = .ok (.astore 6, 2) := dk_58 6 (dk_at dksX0_patrol_0 21 rfl rfl)
theorem dX0_patrol_23 : decode cX0_patrol 23 = .ok (.iconst 2, 1) := dk_5 (dk_at dksX0_patrol_0 23 rfl rfl)
theorem dX0_patrol_24 : decode cX0_patrol 24 = .ok (.ireturn, 1) := dk_172 (dk_at dksX0_patrol_1 0 rfl rfl)
theorem dX0_patrol_25 : decode cX0_patrol 25 = .ok (.astore 6, 2) := dk_58 6 (dk_at dksX0_patrol_1 1 rfl rfl)
theorem dX0_patrol_27 : decode cX0_patrol 27 = .ok (.iconst 3, 1) := dk_6 (dk_at dksX0_patrol_1 3 rfl rfl)
theorem dX0_patrol_28 : decode cX0_patrol 28 = .ok (.ireturn, 1) := dk_172 (dk_at dksX0_patrol_1 4 rfl rfl)
theorem dX0_patrol_29 : decode cX0_patrol 29 = .ok (.iconst 0, 1) := dk_3 (dk_at dksX0_patrol_1 5 rfl rfl)
theorem dX0_patrol_30 : decode cX0_patrol 30 = .ok (.ireturn, 1) := dk_172 (dk_at dksX0_patrol_1 6 rfl rfl)
abbrev cX0_crowd : ByteArray := method_10_code
def yX0_crowd : MethodName := ⟨RX0, "crowd", "(LLaneCrowds;II[J)I"⟩
def dkwX0_crowd_0 : List UInt8 := [45, 3, 42, 27, 28, 182, 0, 41, 133, 80, 167, 0, 7, 58, 4, 4, 172, 3, 172]
abbrev dktX0_crowd_0 : List UInt8 := dkwX0_crowd_0 ++ []
theorem dksX0_crowd_0 : cX0_crowd.data.toList.drop 0 = dktX0_crowd_0 := by decide +kernel
theorem dX0_crowd_0 : decode cX0_crowd 0 = .ok (.aload_n 3, 1) := dk_45 (dk_at dksX0_crowd_0 0 rfl rfl)
theorem dX0_crowd_1 : decode cX0_crowd 1 = .ok (.iconst 0, 1) := dk_3 (dk_at dksX0_crowd_0 1 rfl rfl)
theorem dX0_crowd_2 : decode cX0_crowd 2 = .ok (.aload_n 0, 1) := dk_42 (dk_at dksX0_crowd_0 2 rfl rfl)
theorem dX0_crowd_3 : decode cX0_crowd 3 = .ok (.iload_n 1, 1) := dk_27 (dk_at dksX0_crowd_0 3 rfl rfl)
theorem dX0_crowd_4 : decode cX0_crowd 4 = .ok (.iload_n 2, 1) := dk_28 (dk_at dksX0_crowd_0 4 rfl rfl)
theorem dX0_crowd_5 : decode cX0_crowd 5 = .ok (.invokevirtual 41, 3) := dk_182 0 41 (dk_at dksX0_crowd_0 5 rfl rfl)
theorem dX0_crowd_8 : decode cX0_crowd 8 = .ok (.i2l, 1) := dk_133 (dk_at dksX0_crowd_0 8 rfl rfl)
theorem dX0_crowd_9 : decode cX0_crowd 9 = .ok (.lastore, 1) := dk_80 (dk_at dksX0_crowd_0 9 rfl rfl)
theorem dX0_crowd_10 : decode cX0_crowd 10 = .ok (.goto 7, 3) := dk_167 0 7 (dk_at dksX0_crowd_0 10 rfl rfl)
theorem dX0_crowd_13 : decode cX0_crowd 13 = .ok (.astore 4, 2) := dk_58 4 (dk_at dksX0_crowd_0 13 rfl rfl)
theorem dX0_crowd_15 : decode cX0_crowd 15 = .ok (.iconst 1, 1) := dk_4 (dk_at dksX0_crowd_0 15 rfl rfl)
theorem dX0_crowd_16 : decode cX0_crowd 16 = .ok (.ireturn, 1) := dk_172 (dk_at dksX0_crowd_0 16 rfl rfl)
theorem dX0_crowd_17 : decode cX0_crowd 17 = .ok (.iconst 0, 1) := dk_3 (dk_at dksX0_crowd_0 17 rfl rfl)
theorem dX0_crowd_18 : decode cX0_crowd 18 = .ok (.ireturn, 1) := dk_172 (dk_at dksX0_crowd_0 18 rfl rfl)
abbrev cX0_guard : ByteArray := method_11_code
def yX0_guard : MethodName := ⟨RX0, "guard", "(LLaneCrowds;II[J)I"⟩
def dkwX0_guard_0 : List UInt8 := [45, 3, 42, 27, 28, 182, 0, 44, 133, 80, 167, 0, 7, 58, 4, 4, 172, 3, 172]
abbrev dktX0_guard_0 : List UInt8 := dkwX0_guard_0 ++ []
theorem dksX0_guard_0 : cX0_guard.data.toList.drop 0 = dktX0_guard_0 := by decide +kernel
theorem dX0_guard_0 : decode cX0_guard 0 = .ok (.aload_n 3, 1) := dk_45 (dk_at dksX0_guard_0 0 rfl rfl)
theorem dX0_guard_1 : decode cX0_guard 1 = .ok (.iconst 0, 1) := dk_3 (dk_at dksX0_guard_0 1 rfl rfl)
theorem dX0_guard_2 : decode cX0_guard 2 = .ok (.aload_n 0, 1) := dk_42 (dk_at dksX0_guard_0 2 rfl rfl)
theorem dX0_guard_3 : decode cX0_guard 3 = .ok (.iload_n 1, 1) := dk_27 (dk_at dksX0_guard_0 3 rfl rfl)
theorem dX0_guard_4 : decode cX0_guard 4 = .ok (.iload_n 2, 1) := dk_28 (dk_at dksX0_guard_0 4 rfl rfl)
theorem dX0_guard_5 : decode cX0_guard 5 = .ok (.invokevirtual 44, 3) := dk_182 0 44 (dk_at dksX0_guard_0 5 rfl rfl)
theorem dX0_guard_8 : decode cX0_guard 8 = .ok (.i2l, 1) := dk_133 (dk_at dksX0_guard_0 8 rfl rfl)
theorem dX0_guard_9 : decode cX0_guard 9 = .ok (.lastore, 1) := dk_80 (dk_at dksX0_guard_0 9 rfl rfl)
theorem dX0_guard_10 : decode cX0_guard 10 = .ok (.goto 7, 3) := dk_167 0 7 (dk_at dksX0_guard_0 10 rfl rfl)
theorem dX0_guard_13 : decode cX0_guard 13 = .ok (.astore 4, 2) := dk_58 4 (dk_at dksX0_guard_0 13 rfl rfl)
theorem dX0_guard_15 : decode cX0_guard 15 = .ok (.iconst 1, 1) := dk_4 (dk_at dksX0_guard_0 15 rfl rfl)
theorem dX0_guard_16 : decode cX0_guard 16 = .ok (.ireturn, 1) := dk_172 (dk_at dksX0_guard_0 16 rfl rfl)
theorem dX0_guard_17 : decode cX0_guard 17 = .ok (.iconst 0, 1) := dk_3 (dk_at dksX0_guard_0 17 rfl rfl)
theorem dX0_guard_18 : decode cX0_guard 18 = .ok (.ireturn, 1) := dk_172 (dk_at dksX0_guard_0 18 rfl rfl)
abbrev cX0_sees : ByteArray := method_12_code
def yX0_sees : MethodName := ⟨RX0, "sees", "(LLaneCrowds;II[J)I"⟩
def dkwX0_sees_1 : List UInt8 := [3, 172]
abbrev dktX0_sees_1 : List UInt8 := dkwX0_sees_1 ++ []
def dkwX0_sees_0 : List UInt8 := [45, 3, 42, 27, 28, 182, 0, 47, 153, 0, 7, 10, 167, 0, 4, 9, 80, 167, 0, 7, 58, 4, 4, 172]
abbrev dktX0_sees_0 : List UInt8 := dkwX0_sees_0 ++ dktX0_sees_1
theorem dksX0_sees_0 : cX0_sees.data.toList.drop 0 = dktX0_sees_0 := by decide +kernel
theorem dksX0_sees_1 : cX0_sees.data.toList.drop 24 = dktX0_sees_1 := dk_seg dksX0_sees_0 24 rfl rfl
theorem dX0_sees_0 : decode cX0_sees 0 = .ok (.aload_n 3, 1) := dk_45 (dk_at dksX0_sees_0 0 rfl rfl)
theorem dX0_sees_1 : decode cX0_sees 1 = .ok (.iconst 0, 1) := dk_3 (dk_at dksX0_sees_0 1 rfl rfl)
theorem dX0_sees_2 : decode cX0_sees 2 = .ok (.aload_n 0, 1) := dk_42 (dk_at dksX0_sees_0 2 rfl rfl)
theorem dX0_sees_3 : decode cX0_sees 3 = .ok (.iload_n 1, 1) := dk_27 (dk_at dksX0_sees_0 3 rfl rfl)
theorem dX0_sees_4 : decode cX0_sees 4 = .ok (.iload_n 2, 1) := dk_28 (dk_at dksX0_sees_0 4 rfl rfl)
theorem dX0_sees_5 : decode cX0_sees 5 = .ok (.invokevirtual 47, 3) := dk_182 0 47 (dk_at dksX0_sees_0 5 rfl rfl)
theorem dX0_sees_8 : decode cX0_sees 8 = .ok (.ifCond .eq 7, 3) := dk_153 0 7 (dk_at dksX0_sees_0 8 rfl rfl)
theorem dX0_sees_11 : decode cX0_sees 11 = .ok (.lconst 1, 1) := dk_10 (dk_at dksX0_sees_0 11 rfl rfl)
theorem dX0_sees_12 : decode cX0_sees 12 = .ok (.goto 4, 3) := dk_167 0 4 (dk_at dksX0_sees_0 12 rfl rfl)
theorem dX0_sees_15 : decode cX0_sees 15 = .ok (.lconst 0, 1) := dk_9 (dk_at dksX0_sees_0 15 rfl rfl)
theorem dX0_sees_16 : decode cX0_sees 16 = .ok (.lastore, 1) := dk_80 (dk_at dksX0_sees_0 16 rfl rfl)
theorem dX0_sees_17 : decode cX0_sees 17 = .ok (.goto 7, 3) := dk_167 0 7 (dk_at dksX0_sees_0 17 rfl rfl)
theorem dX0_sees_20 : decode cX0_sees 20 = .ok (.astore 4, 2) := dk_58 4 (dk_at dksX0_sees_0 20 rfl rfl)
theorem dX0_sees_22 : decode cX0_sees 22 = .ok (.iconst 1, 1) := dk_4 (dk_at dksX0_sees_0 22 rfl rfl)
theorem dX0_sees_23 : decode cX0_sees 23 = .ok (.ireturn, 1) := dk_172 (dk_at dksX0_sees_0 23 rfl rfl)
theorem dX0_sees_24 : decode cX0_sees 24 = .ok (.iconst 0, 1) := dk_3 (dk_at dksX0_sees_1 0 rfl rfl)
theorem dX0_sees_25 : decode cX0_sees 25 = .ok (.ireturn, 1) := dk_172 (dk_at dksX0_sees_1 1 rfl rfl)
abbrev cX0_count : ByteArray := method_13_code
def yX0_count : MethodName := ⟨RX0, "count", "(LLaneCrowds;I[J)I"⟩
def dkwX0_count_0 : List UInt8 := [44, 3, 42, 27, 182, 0, 50, 133, 80, 167, 0, 6, 78, 4, 172, 3, 172]
abbrev dktX0_count_0 : List UInt8 := dkwX0_count_0 ++ []
theorem dksX0_count_0 : cX0_count.data.toList.drop 0 = dktX0_count_0 := by decide +kernel
theorem dX0_count_0 : decode cX0_count 0 = .ok (.aload_n 2, 1) := dk_44 (dk_at dksX0_count_0 0 rfl rfl)
theorem dX0_count_1 : decode cX0_count 1 = .ok (.iconst 0, 1) := dk_3 (dk_at dksX0_count_0 1 rfl rfl)
theorem dX0_count_2 : decode cX0_count 2 = .ok (.aload_n 0, 1) := dk_42 (dk_at dksX0_count_0 2 rfl rfl)
theorem dX0_count_3 : decode cX0_count 3 = .ok (.iload_n 1, 1) := dk_27 (dk_at dksX0_count_0 3 rfl rfl)
theorem dX0_count_4 : decode cX0_count 4 = .ok (.invokevirtual 50, 3) := dk_182 0 50 (dk_at dksX0_count_0 4 rfl rfl)
theorem dX0_count_7 : decode cX0_count 7 = .ok (.i2l, 1) := dk_133 (dk_at dksX0_count_0 7 rfl rfl)
theorem dX0_count_8 : decode cX0_count 8 = .ok (.lastore, 1) := dk_80 (dk_at dksX0_count_0 8 rfl rfl)
theorem dX0_count_9 : decode cX0_count 9 = .ok (.goto 6, 3) := dk_167 0 6 (dk_at dksX0_count_0 9 rfl rfl)
theorem dX0_count_12 : decode cX0_count 12 = .ok (.astore_n 3, 1) := dk_78 (dk_at dksX0_count_0 12 rfl rfl)
theorem dX0_count_13 : decode cX0_count 13 = .ok (.iconst 1, 1) := dk_4 (dk_at dksX0_count_0 13 rfl rfl)
theorem dX0_count_14 : decode cX0_count 14 = .ok (.ireturn, 1) := dk_172 (dk_at dksX0_count_0 14 rfl rfl)
theorem dX0_count_15 : decode cX0_count 15 = .ok (.iconst 0, 1) := dk_3 (dk_at dksX0_count_0 15 rfl rfl)
theorem dX0_count_16 : decode cX0_count 16 = .ok (.ireturn, 1) := dk_172 (dk_at dksX0_count_0 16 rfl rfl)
abbrev cX0_way : ByteArray := method_14_code
def yX0_way : MethodName := ⟨RX0, "way", "(LLaneCrowds;IIII[J)I"⟩
def dkwX0_way_0 : List UInt8 := [25, 5, 3, 42, 27, 28, 29, 21, 4, 182, 0, 54, 133, 80, 167, 0, 7, 58, 6, 4, 172, 3, 172]
abbrev dktX0_way_0 : List UInt8 := dkwX0_way_0 ++ []
theorem dksX0_way_0 : cX0_way.data.toList.drop 0 = dktX0_way_0 := by decide +kernel
theorem dX0_way_0 : decode cX0_way 0 = .ok (.aload 5, 2) := dk_25 5 (dk_at dksX0_way_0 0 rfl rfl)
theorem dX0_way_2 : decode cX0_way 2 = .ok (.iconst 0, 1) := dk_3 (dk_at dksX0_way_0 2 rfl rfl)
theorem dX0_way_3 : decode cX0_way 3 = .ok (.aload_n 0, 1) := dk_42 (dk_at dksX0_way_0 3 rfl rfl)
theorem dX0_way_4 : decode cX0_way 4 = .ok (.iload_n 1, 1) := dk_27 (dk_at dksX0_way_0 4 rfl rfl)
theorem dX0_way_5 : decode cX0_way 5 = .ok (.iload_n 2, 1) := dk_28 (dk_at dksX0_way_0 5 rfl rfl)
theorem dX0_way_6 : decode cX0_way 6 = .ok (.iload_n 3, 1) := dk_29 (dk_at dksX0_way_0 6 rfl rfl)
theorem dX0_way_7 : decode cX0_way 7 = .ok (.iload 4, 2) := dk_21 4 (dk_at dksX0_way_0 7 rfl rfl)
theorem dX0_way_9 : decode cX0_way 9 = .ok (.invokevirtual 54, 3) := dk_182 0 54 (dk_at dksX0_way_0 9 rfl rfl)
theorem dX0_way_12 : decode cX0_way 12 = .ok (.i2l, 1) := dk_133 (dk_at dksX0_way_0 12 rfl rfl)
theorem dX0_way_13 : decode cX0_way 13 = .ok (.lastore, 1) := dk_80 (dk_at dksX0_way_0 13 rfl rfl)
theorem dX0_way_14 : decode cX0_way 14 = .ok (.goto 7, 3) := dk_167 0 7 (dk_at dksX0_way_0 14 rfl rfl)
theorem dX0_way_17 : decode cX0_way 17 = .ok (.astore 6, 2) := dk_58 6 (dk_at dksX0_way_0 17 rfl rfl)
theorem dX0_way_19 : decode cX0_way 19 = .ok (.iconst 1, 1) := dk_4 (dk_at dksX0_way_0 19 rfl rfl)
theorem dX0_way_20 : decode cX0_way 20 = .ok (.ireturn, 1) := dk_172 (dk_at dksX0_way_0 20 rfl rfl)
theorem dX0_way_21 : decode cX0_way 21 = .ok (.iconst 0, 1) := dk_3 (dk_at dksX0_way_0 21 rfl rfl)
theorem dX0_way_22 : decode cX0_way 22 = .ok (.ireturn, 1) := dk_172 (dk_at dksX0_way_0 22 rfl rfl)
abbrev cX0_pass : ByteArray := method_15_code
def yX0_pass : MethodName := ⟨RX0, "pass", "(LLaneCrowds;I[J)I"⟩
def dkwX0_pass_0 : List UInt8 := [44, 3, 42, 27, 182, 0, 57, 133, 80, 167, 0, 6, 78, 4, 172, 3, 172]
abbrev dktX0_pass_0 : List UInt8 := dkwX0_pass_0 ++ []
theorem dksX0_pass_0 : cX0_pass.data.toList.drop 0 = dktX0_pass_0 := by decide +kernel
theorem dX0_pass_0 : decode cX0_pass 0 = .ok (.aload_n 2, 1) := dk_44 (dk_at dksX0_pass_0 0 rfl rfl)
theorem dX0_pass_1 : decode cX0_pass 1 = .ok (.iconst 0, 1) := dk_3 (dk_at dksX0_pass_0 1 rfl rfl)
theorem dX0_pass_2 : decode cX0_pass 2 = .ok (.aload_n 0, 1) := dk_42 (dk_at dksX0_pass_0 2 rfl rfl)
theorem dX0_pass_3 : decode cX0_pass 3 = .ok (.iload_n 1, 1) := dk_27 (dk_at dksX0_pass_0 3 rfl rfl)
theorem dX0_pass_4 : decode cX0_pass 4 = .ok (.invokevirtual 57, 3) := dk_182 0 57 (dk_at dksX0_pass_0 4 rfl rfl)
theorem dX0_pass_7 : decode cX0_pass 7 = .ok (.i2l, 1) := dk_133 (dk_at dksX0_pass_0 7 rfl rfl)
theorem dX0_pass_8 : decode cX0_pass 8 = .ok (.lastore, 1) := dk_80 (dk_at dksX0_pass_0 8 rfl rfl)
theorem dX0_pass_9 : decode cX0_pass 9 = .ok (.goto 6, 3) := dk_167 0 6 (dk_at dksX0_pass_0 9 rfl rfl)
theorem dX0_pass_12 : decode cX0_pass 12 = .ok (.astore_n 3, 1) := dk_78 (dk_at dksX0_pass_0 12 rfl rfl)
theorem dX0_pass_13 : decode cX0_pass 13 = .ok (.iconst 1, 1) := dk_4 (dk_at dksX0_pass_0 13 rfl rfl)
theorem dX0_pass_14 : decode cX0_pass 14 = .ok (.ireturn, 1) := dk_172 (dk_at dksX0_pass_0 14 rfl rfl)
theorem dX0_pass_15 : decode cX0_pass 15 = .ok (.iconst 0, 1) := dk_3 (dk_at dksX0_pass_0 15 rfl rfl)
theorem dX0_pass_16 : decode cX0_pass 16 = .ok (.ireturn, 1) := dk_172 (dk_at dksX0_pass_0 16 rfl rfl)
abbrev cX0_foresee : ByteArray := method_16_code
def yX0_foresee : MethodName := ⟨RX0, "foresee", "(LLaneCrowds;II[J)I"⟩
def dkwX0_foresee_0 : List UInt8 := [45, 3, 42, 27, 28, 182, 0, 60, 133, 80, 167, 0, 11, 58, 4, 4, 172, 58, 4, 5, 172, 3, 172]
abbrev dktX0_foresee_0 : List UInt8 := dkwX0_foresee_0 ++ []
theorem dksX0_foresee_0 : cX0_foresee.data.toList.drop 0 = dktX0_foresee_0 := by decide +kernel
theorem dX0_foresee_0 : decode cX0_foresee 0 = .ok (.aload_n 3, 1) := dk_45 (dk_at dksX0_foresee_0 0 rfl rfl)
theorem dX0_foresee_1 : decode cX0_foresee 1 = .ok (.iconst 0, 1) := dk_3 (dk_at dksX0_foresee_0 1 rfl rfl)
theorem dX0_foresee_2 : decode cX0_foresee 2 = .ok (.aload_n 0, 1) := dk_42 (dk_at dksX0_foresee_0 2 rfl rfl)
theorem dX0_foresee_3 : decode cX0_foresee 3 = .ok (.iload_n 1, 1) := dk_27 (dk_at dksX0_foresee_0 3 rfl rfl)
theorem dX0_foresee_4 : decode cX0_foresee 4 = .ok (.iload_n 2, 1) := dk_28 (dk_at dksX0_foresee_0 4 rfl rfl)
theorem dX0_foresee_5 : decode cX0_foresee 5 = .ok (.invokevirtual 60, 3) := dk_182 0 60 (dk_at dksX0_foresee_0 5 rfl rfl)
theorem dX0_foresee_8 : decode cX0_foresee 8 = .ok (.i2l, 1) := dk_133 (dk_at dksX0_foresee_0 8 rfl rfl)
theorem dX0_foresee_9 : decode cX0_foresee 9 = .ok (.lastore, 1) := dk_80 (dk_at dksX0_foresee_0 9 rfl rfl)
theorem dX0_foresee_10 : decode cX0_foresee 10 = .ok (.goto 11, 3) := dk_167 0 11 (dk_at dksX0_foresee_0 10 rfl rfl)
theorem dX0_foresee_13 : decode cX0_foresee 13 = .ok (.astore 4, 2) := dk_58 4 (dk_at dksX0_foresee_0 13 rfl rfl)
theorem dX0_foresee_15 : decode cX0_foresee 15 = .ok (.iconst 1, 1) := dk_4 (dk_at dksX0_foresee_0 15 rfl rfl)
theorem dX0_foresee_16 : decode cX0_foresee 16 = .ok (.ireturn, 1) := dk_172 (dk_at dksX0_foresee_0 16 rfl rfl)
theorem dX0_foresee_17 : decode cX0_foresee 17 = .ok (.astore 4, 2) := dk_58 4 (dk_at dksX0_foresee_0 17 rfl rfl)
theorem dX0_foresee_19 : decode cX0_foresee 19 = .ok (.iconst 2, 1) := dk_5 (dk_at dksX0_foresee_0 19 rfl rfl)
theorem dX0_foresee_20 : decode cX0_foresee 20 = .ok (.ireturn, 1) := dk_172 (dk_at dksX0_foresee_0 20 rfl rfl)
theorem dX0_foresee_21 : decode cX0_foresee 21 = .ok (.iconst 0, 1) := dk_3 (dk_at dksX0_foresee_0 21 rfl rfl)
theorem dX0_foresee_22 : decode cX0_foresee 22 = .ok (.ireturn, 1) := dk_172 (dk_at dksX0_foresee_0 22 rfl rfl)
abbrev cX0_advise : ByteArray := method_17_code
def yX0_advise : MethodName := ⟨RX0, "advise", "(LLaneCrowds;I[J)I"⟩
def dkwX0_advise_0 : List UInt8 := [44, 3, 42, 27, 182, 0, 63, 133, 80, 167, 0, 6, 78, 4, 172, 3, 172]
abbrev dktX0_advise_0 : List UInt8 := dkwX0_advise_0 ++ []
theorem dksX0_advise_0 : cX0_advise.data.toList.drop 0 = dktX0_advise_0 := by decide +kernel
theorem dX0_advise_0 : decode cX0_advise 0 = .ok (.aload_n 2, 1) := dk_44 (dk_at dksX0_advise_0 0 rfl rfl)
theorem dX0_advise_1 : decode cX0_advise 1 = .ok (.iconst 0, 1) := dk_3 (dk_at dksX0_advise_0 1 rfl rfl)
theorem dX0_advise_2 : decode cX0_advise 2 = .ok (.aload_n 0, 1) := dk_42 (dk_at dksX0_advise_0 2 rfl rfl)
theorem dX0_advise_3 : decode cX0_advise 3 = .ok (.iload_n 1, 1) := dk_27 (dk_at dksX0_advise_0 3 rfl rfl)
theorem dX0_advise_4 : decode cX0_advise 4 = .ok (.invokevirtual 63, 3) := dk_182 0 63 (dk_at dksX0_advise_0 4 rfl rfl)
theorem dX0_advise_7 : decode cX0_advise 7 = .ok (.i2l, 1) := dk_133 (dk_at dksX0_advise_0 7 rfl rfl)
theorem dX0_advise_8 : decode cX0_advise 8 = .ok (.lastore, 1) := dk_80 (dk_at dksX0_advise_0 8 rfl rfl)
theorem dX0_advise_9 : decode cX0_advise 9 = .ok (.goto 6, 3) := dk_167 0 6 (dk_at dksX0_advise_0 9 rfl rfl)
theorem dX0_advise_12 : decode cX0_advise 12 = .ok (.astore_n 3, 1) := dk_78 (dk_at dksX0_advise_0 12 rfl rfl)
theorem dX0_advise_13 : decode cX0_advise 13 = .ok (.iconst 1, 1) := dk_4 (dk_at dksX0_advise_0 13 rfl rfl)
theorem dX0_advise_14 : decode cX0_advise 14 = .ok (.ireturn, 1) := dk_172 (dk_at dksX0_advise_0 14 rfl rfl)
theorem dX0_advise_15 : decode cX0_advise 15 = .ok (.iconst 0, 1) := dk_3 (dk_at dksX0_advise_0 15 rfl rfl)
theorem dX0_advise_16 : decode cX0_advise 16 = .ok (.ireturn, 1) := dk_172 (dk_at dksX0_advise_0 16 rfl rfl)
theorem q36 : (Jvm.Cond.initialized "LaneCrowdsLaw") ∈ lw_all := lw_g (lw_at lw_m1 0 rfl) rfl
theorem q63 : (Jvm.Cond.classLink "LaneCrowdsLaw" (8 : Nat) "LaneCrowds") ∈ lw_all := lw_g (lw_at lw_m1 27 rfl) rfl
theorem q65 : (Jvm.Cond.methodLink "LaneCrowdsLaw" (66 : Nat) ({ cls := "LaneCrowds", name := "<init>", desc := "()V" } : Jvm.MethodName)) ∈ lw_all := lw_g (lw_at lw_m1 29 rfl) rfl
theorem q125 : (Jvm.Cond.methodLink "LaneCrowdsLaw" (116 : Nat) ({ cls := "LaneCrowds", name := "shuts", desc := "()I" } : Jvm.MethodName)) ∈ lw_all := lw_g (lw_at lw_m1 89 rfl) rfl
theorem q148 : (Jvm.Cond.methodLink "LaneCrowdsLaw" (129 : Nat) ({ cls := "LaneCrowds", name := "mean", desc := "()D" } : Jvm.MethodName)) ∈ lw_all := lw_g (lw_at lw_m1 112 rfl) rfl
theorem q183 : (Jvm.Cond.methodLink "LaneCrowdsLaw" (134 : Nat) ({ cls := "LaneCrowds", name := "digest", desc := "()J" } : Jvm.MethodName)) ∈ lw_all := lw_g (lw_at lw_m1 147 rfl) rfl
theorem q257 : (Jvm.Cond.methodLink "LaneCrowdsLaw" (70 : Nat) ({ cls := "LaneCrowdsLaw", name := "house", desc := "(LLaneCrowds;II[J)I" } : Jvm.MethodName)) ∈ lw_all := lw_g (lw_at lw_m1 221 rfl) rfl
theorem q258 : (Jvm.Cond.static ({ cls := "LaneCrowdsLaw", name := "house", desc := "(LLaneCrowds;II[J)I" } : Jvm.MethodName)) ∈ lw_all := lw_g (lw_at lw_m1 222 rfl) rfl
theorem q259 : (Jvm.Cond.codeWith ({ cls := "LaneCrowdsLaw", name := "house", desc := "(LLaneCrowds;II[J)I" } : Jvm.MethodName) method_3_code (5 : Nat) (Option.some Jvm.ClassFile.FieldType.int) [((0 : Nat), (17 : Nat), (20 : Nat), (13 : Nat)), ((0 : Nat), (17 : Nat), (24 : Nat), (15 : Nat))]) ∈ lw_all := lw_g (lw_at lw_m1 223 rfl) rfl
theorem q260 : (Jvm.Cond.classLink "LaneCrowdsLaw" (13 : Nat) "java/lang/IndexOutOfBoundsException") ∈ lw_all := lw_g (lw_at lw_m1 224 rfl) rfl
theorem q337 : (Jvm.Cond.classLink "LaneCrowdsLaw" (15 : Nat) "java/lang/IllegalStateException") ∈ lw_all := lw_g (lw_at lw_m2 61 rfl) rfl
theorem q338 : (Jvm.Cond.methodLink "LaneCrowdsLaw" (7 : Nat) ({ cls := "LaneCrowds", name := "house", desc := "(II)Z" } : Jvm.MethodName)) ∈ lw_all := lw_g (lw_at lw_m2 62 rfl) rfl
theorem q391 : (Jvm.Cond.methodLink "LaneCrowdsLaw" (80 : Nat) ({ cls := "LaneCrowdsLaw", name := "block", desc := "(LLaneCrowds;III[J)I" } : Jvm.MethodName)) ∈ lw_all := lw_g (lw_at lw_m2 115 rfl) rfl
theorem q392 : (Jvm.Cond.static ({ cls := "LaneCrowdsLaw", name := "block", desc := "(LLaneCrowds;III[J)I" } : Jvm.MethodName)) ∈ lw_all := lw_g (lw_at lw_m2 116 rfl) rfl
theorem q393 : (Jvm.Cond.codeWith ({ cls := "LaneCrowdsLaw", name := "block", desc := "(LLaneCrowds;III[J)I" } : Jvm.MethodName) method_4_code (6 : Nat) (Option.some Jvm.ClassFile.FieldType.int) [((0 : Nat), (12 : Nat), (15 : Nat), (13 : Nat)), ((0 : Nat), (12 : Nat), (19 : Nat), (21 : Nat)), ((0 : Nat), (12 : Nat), (23 : Nat), (15 : Nat))]) ∈ lw_all := lw_g (lw_at lw_m2 117 rfl) rfl
theorem q394 : (Jvm.Cond.classLink "LaneCrowdsLaw" (21 : Nat) "java/lang/IllegalArgumentException") ∈ lw_all := lw_g (lw_at lw_m2 118 rfl) rfl
theorem q395 : (Jvm.Cond.methodLink "LaneCrowdsLaw" (17 : Nat) ({ cls := "LaneCrowds", name := "block", desc := "(III)I" } : Jvm.MethodName)) ∈ lw_all := lw_g (lw_at lw_m2 119 rfl) rfl
theorem q424 : (Jvm.Cond.methodLink "LaneCrowdsLaw" (84 : Nat) ({ cls := "LaneCrowdsLaw", name := "cell", desc := "(LLaneCrowds;II[J)I" } : Jvm.MethodName)) ∈ lw_all := lw_g (lw_at lw_m2 148 rfl) rfl
theorem q425 : (Jvm.Cond.static ({ cls := "LaneCrowdsLaw", name := "cell", desc := "(LLaneCrowds;II[J)I" } : Jvm.MethodName)) ∈ lw_all := lw_g (lw_at lw_m2 149 rfl) rfl
theorem q426 : (Jvm.Cond.codeWith ({ cls := "LaneCrowdsLaw", name := "cell", desc := "(LLaneCrowds;II[J)I" } : Jvm.MethodName) method_5_code (5 : Nat) (Option.some Jvm.ClassFile.FieldType.int) [((0 : Nat), (10 : Nat), (13 : Nat), (13 : Nat))]) ∈ lw_all := lw_g (lw_at lw_m2 150 rfl) rfl
theorem q427 : (Jvm.Cond.methodLink "LaneCrowdsLaw" (23 : Nat) ({ cls := "LaneCrowds", name := "cell", desc := "(II)I" } : Jvm.MethodName)) ∈ lw_all := lw_g (lw_at lw_m2 151 rfl) rfl
theorem q431 : (Jvm.Cond.methodLink "LaneCrowdsLaw" (87 : Nat) ({ cls := "LaneCrowdsLaw", name := "gather", desc := "(LLaneCrowds;III[J)I" } : Jvm.MethodName)) ∈ lw_all := lw_g (lw_at lw_m2 155 rfl) rfl
theorem q432 : (Jvm.Cond.static ({ cls := "LaneCrowdsLaw", name := "gather", desc := "(LLaneCrowds;III[J)I" } : Jvm.MethodName)) ∈ lw_all := lw_g (lw_at lw_m2 156 rfl) rfl
theorem q433 : (Jvm.Cond.codeWith ({ cls := "LaneCrowdsLaw", name := "gather", desc := "(LLaneCrowds;III[J)I" } : Jvm.MethodName) method_6_code (6 : Nat) (Option.some Jvm.ClassFile.FieldType.int) [((0 : Nat), (12 : Nat), (15 : Nat), (13 : Nat)), ((0 : Nat), (12 : Nat), (19 : Nat), (21 : Nat)), ((0 : Nat), (12 : Nat), (23 : Nat), (15 : Nat))]) ∈ lw_all := lw_g (lw_at lw_m2 157 rfl) rfl
theorem q434 : (Jvm.Cond.methodLink "LaneCrowdsLaw" (27 : Nat) ({ cls := "LaneCrowds", name := "gather", desc := "(III)I" } : Jvm.MethodName)) ∈ lw_all := lw_g (lw_at lw_m2 158 rfl) rfl
theorem q526 : (Jvm.Cond.methodLink "LaneCrowdsLaw" (90 : Nat) ({ cls := "LaneCrowdsLaw", name := "order", desc := "(LLaneCrowds;II[J)I" } : Jvm.MethodName)) ∈ lw_all := lw_g (lw_at lw_m3 10 rfl) rfl
theorem q527 : (Jvm.Cond.static ({ cls := "LaneCrowdsLaw", name := "order", desc := "(LLaneCrowds;II[J)I" } : Jvm.MethodName)) ∈ lw_all := lw_g (lw_at lw_m3 11 rfl) rfl
theorem q528 : (Jvm.Cond.codeWith ({ cls := "LaneCrowdsLaw", name := "order", desc := "(LLaneCrowds;II[J)I" } : Jvm.MethodName) method_7_code (5 : Nat) (Option.some Jvm.ClassFile.FieldType.int) [((0 : Nat), (10 : Nat), (13 : Nat), (13 : Nat)), ((0 : Nat), (10 : Nat), (17 : Nat), (21 : Nat)), ((0 : Nat), (10 : Nat), (21 : Nat), (15 : Nat))]) ∈ lw_all := lw_g (lw_at lw_m3 12 rfl) rfl
theorem q529 : (Jvm.Cond.methodLink "LaneCrowdsLaw" (30 : Nat) ({ cls := "LaneCrowds", name := "order", desc := "(II)I" } : Jvm.MethodName)) ∈ lw_all := lw_g (lw_at lw_m3 13 rfl) rfl
theorem q572 : (Jvm.Cond.methodLink "LaneCrowdsLaw" (93 : Nat) ({ cls := "LaneCrowdsLaw", name := "torch", desc := "(LLaneCrowds;I[J)I" } : Jvm.MethodName)) ∈ lw_all := lw_g (lw_at lw_m3 56 rfl) rfl
theorem q573 : (Jvm.Cond.static ({ cls := "LaneCrowdsLaw", name := "torch", desc := "(LLaneCrowds;I[J)I" } : Jvm.MethodName)) ∈ lw_all := lw_g (lw_at lw_m3 57 rfl) rfl
theorem q574 : (Jvm.Cond.codeWith ({ cls := "LaneCrowdsLaw", name := "torch", desc := "(LLaneCrowds;I[J)I" } : Jvm.MethodName) method_8_code (4 : Nat) (Option.some Jvm.ClassFile.FieldType.int) [((0 : Nat), (16 : Nat), (19 : Nat), (13 : Nat)), ((0 : Nat), (16 : Nat), (22 : Nat), (15 : Nat))]) ∈ lw_all := lw_g (lw_at lw_m3 58 rfl) rfl
theorem q575 : (Jvm.Cond.methodLink "LaneCrowdsLaw" (33 : Nat) ({ cls := "LaneCrowds", name := "torch", desc := "(I)Z" } : Jvm.MethodName)) ∈ lw_all := lw_g (lw_at lw_m3 59 rfl) rfl
theorem q579 : (Jvm.Cond.methodLink "LaneCrowdsLaw" (97 : Nat) ({ cls := "LaneCrowdsLaw", name := "patrol", desc := "(LLaneCrowds;IIII[J)I" } : Jvm.MethodName)) ∈ lw_all := lw_g (lw_at lw_m3 63 rfl) rfl
theorem q580 : (Jvm.Cond.static ({ cls := "LaneCrowdsLaw", name := "patrol", desc := "(LLaneCrowds;IIII[J)I" } : Jvm.MethodName)) ∈ lw_all := lw_g (lw_at lw_m3 64 rfl) rfl
theorem q581 : (Jvm.Cond.codeWith ({ cls := "LaneCrowdsLaw", name := "patrol", desc := "(LLaneCrowds;IIII[J)I" } : Jvm.MethodName) method_9_code (7 : Nat) (Option.some Jvm.ClassFile.FieldType.int) [((0 : Nat), (14 : Nat), (17 : Nat), (13 : Nat)), ((0 : Nat), (14 : Nat), (21 : Nat), (21 : Nat)), ((0 : Nat), (14 : Nat), (25 : Nat), (15 : Nat))]) ∈ lw_all := lw_g (lw_at lw_m3 65 rfl) rfl
theorem q582 : (Jvm.Cond.methodLink "LaneCrowdsLaw" (37 : Nat) ({ cls := "LaneCrowds", name := "patrol", desc := "(IIII)I" } : Jvm.MethodName)) ∈ lw_all := lw_g (lw_at lw_m3 66 rfl) rfl
theorem q603 : (Jvm.Cond.methodLink "LaneCrowdsLaw" (101 : Nat) ({ cls := "LaneCrowdsLaw", name := "crowd", desc := "(LLaneCrowds;II[J)I" } : Jvm.MethodName)) ∈ lw_all := lw_g (lw_at lw_m3 87 rfl) rfl
theorem q604 : (Jvm.Cond.static ({ cls := "LaneCrowdsLaw", name := "crowd", desc := "(LLaneCrowds;II[J)I" } : Jvm.MethodName)) ∈ lw_all := lw_g (lw_at lw_m3 88 rfl) rfl
theorem q605 : (Jvm.Cond.codeWith ({ cls := "LaneCrowdsLaw", name := "crowd", desc := "(LLaneCrowds;II[J)I" } : Jvm.MethodName) method_10_code (5 : Nat) (Option.some Jvm.ClassFile.FieldType.int) [((0 : Nat), (10 : Nat), (13 : Nat), (13 : Nat))]) ∈ lw_all := lw_g (lw_at lw_m3 89 rfl) rfl
theorem q606 : (Jvm.Cond.methodLink "LaneCrowdsLaw" (41 : Nat) ({ cls := "LaneCrowds", name := "crowd", desc := "(II)I" } : Jvm.MethodName)) ∈ lw_all := lw_g (lw_at lw_m3 90 rfl) rfl
theorem q610 : (Jvm.Cond.methodLink "LaneCrowdsLaw" (104 : Nat) ({ cls := "LaneCrowdsLaw", name := "guard", desc := "(LLaneCrowds;II[J)I" } : Jvm.MethodName)) ∈ lw_all := lw_g (lw_at lw_m3 94 rfl) rfl
theorem q611 : (Jvm.Cond.static ({ cls := "LaneCrowdsLaw", name := "guard", desc := "(LLaneCrowds;II[J)I" } : Jvm.MethodName)) ∈ lw_all := lw_g (lw_at lw_m3 95 rfl) rfl
theorem q612 : (Jvm.Cond.codeWith ({ cls := "LaneCrowdsLaw", name := "guard", desc := "(LLaneCrowds;II[J)I" } : Jvm.MethodName) method_11_code (5 : Nat) (Option.some Jvm.ClassFile.FieldType.int) [((0 : Nat), (10 : Nat), (13 : Nat), (13 : Nat))]) ∈ lw_all := lw_g (lw_at lw_m3 96 rfl) rfl
theorem q613 : (Jvm.Cond.methodLink "LaneCrowdsLaw" (44 : Nat) ({ cls := "LaneCrowds", name := "guard", desc := "(II)I" } : Jvm.MethodName)) ∈ lw_all := lw_g (lw_at lw_m3 97 rfl) rfl
theorem q617 : (Jvm.Cond.methodLink "LaneCrowdsLaw" (107 : Nat) ({ cls := "LaneCrowdsLaw", name := "sees", desc := "(LLaneCrowds;II[J)I" } : Jvm.MethodName)) ∈ lw_all := lw_g (lw_at lw_m3 101 rfl) rfl
theorem q618 : (Jvm.Cond.static ({ cls := "LaneCrowdsLaw", name := "sees", desc := "(LLaneCrowds;II[J)I" } : Jvm.MethodName)) ∈ lw_all := lw_g (lw_at lw_m3 102 rfl) rfl
theorem q619 : (Jvm.Cond.codeWith ({ cls := "LaneCrowdsLaw", name := "sees", desc := "(LLaneCrowds;II[J)I" } : Jvm.MethodName) method_12_code (5 : Nat) (Option.some Jvm.ClassFile.FieldType.int) [((0 : Nat), (17 : Nat), (20 : Nat), (13 : Nat))]) ∈ lw_all := lw_g (lw_at lw_m3 103 rfl) rfl
theorem q620 : (Jvm.Cond.methodLink "LaneCrowdsLaw" (47 : Nat) ({ cls := "LaneCrowds", name := "sees", desc := "(II)Z" } : Jvm.MethodName)) ∈ lw_all := lw_g (lw_at lw_m3 104 rfl) rfl
theorem q624 : (Jvm.Cond.methodLink "LaneCrowdsLaw" (110 : Nat) ({ cls := "LaneCrowdsLaw", name := "count", desc := "(LLaneCrowds;I[J)I" } : Jvm.MethodName)) ∈ lw_all := lw_g (lw_at lw_m3 108 rfl) rfl
theorem q625 : (Jvm.Cond.static ({ cls := "LaneCrowdsLaw", name := "count", desc := "(LLaneCrowds;I[J)I" } : Jvm.MethodName)) ∈ lw_all := lw_g (lw_at lw_m3 109 rfl) rfl
theorem q626 : (Jvm.Cond.codeWith ({ cls := "LaneCrowdsLaw", name := "count", desc := "(LLaneCrowds;I[J)I" } : Jvm.MethodName) method_13_code (4 : Nat) (Option.some Jvm.ClassFile.FieldType.int) [((0 : Nat), (9 : Nat), (12 : Nat), (13 : Nat))]) ∈ lw_all := lw_g (lw_at lw_m3 110 rfl) rfl
theorem q627 : (Jvm.Cond.methodLink "LaneCrowdsLaw" (50 : Nat) ({ cls := "LaneCrowds", name := "count", desc := "(I)I" } : Jvm.MethodName)) ∈ lw_all := lw_g (lw_at lw_m3 111 rfl) rfl
theorem q631 : (Jvm.Cond.methodLink "LaneCrowdsLaw" (113 : Nat) ({ cls := "LaneCrowdsLaw", name := "way", desc := "(LLaneCrowds;IIII[J)I" } : Jvm.MethodName)) ∈ lw_all := lw_g (lw_at lw_m3 115 rfl) rfl
theorem q632 : (Jvm.Cond.static ({ cls := "LaneCrowdsLaw", name := "way", desc := "(LLaneCrowds;IIII[J)I" } : Jvm.MethodName)) ∈ lw_all := lw_g (lw_at lw_m3 116 rfl) rfl
theorem q633 : (Jvm.Cond.codeWith ({ cls := "LaneCrowdsLaw", name := "way", desc := "(LLaneCrowds;IIII[J)I" } : Jvm.MethodName) method_14_code (7 : Nat) (Option.some Jvm.ClassFile.FieldType.int) [((0 : Nat), (14 : Nat), (17 : Nat), (13 : Nat))]) ∈ lw_all := lw_g (lw_at lw_m3 117 rfl) rfl
theorem q634 : (Jvm.Cond.methodLink "LaneCrowdsLaw" (54 : Nat) ({ cls := "LaneCrowds", name := "way", desc := "(IIII)I" } : Jvm.MethodName)) ∈ lw_all := lw_g (lw_at lw_m3 118 rfl) rfl
theorem q645 : (Jvm.Cond.methodLink "LaneCrowdsLaw" (120 : Nat) ({ cls := "LaneCrowdsLaw", name := "pass", desc := "(LLaneCrowds;I[J)I" } : Jvm.MethodName)) ∈ lw_all := lw_g (lw_at lw_m3 129 rfl) rfl
theorem q646 : (Jvm.Cond.static ({ cls := "LaneCrowdsLaw", name := "pass", desc := "(LLaneCrowds;I[J)I" } : Jvm.MethodName)) ∈ lw_all := lw_g (lw_at lw_m3 130 rfl) rfl
theorem q647 : (Jvm.Cond.codeWith ({ cls := "LaneCrowdsLaw", name := "pass", desc := "(LLaneCrowds;I[J)I" } : Jvm.MethodName) method_15_code (4 : Nat) (Option.some Jvm.ClassFile.FieldType.int) [((0 : Nat), (9 : Nat), (12 : Nat), (21 : Nat))]) ∈ lw_all := lw_g (lw_at lw_m3 131 rfl) rfl
theorem q648 : (Jvm.Cond.methodLink "LaneCrowdsLaw" (57 : Nat) ({ cls := "LaneCrowds", name := "pass", desc := "(I)I" } : Jvm.MethodName)) ∈ lw_all := lw_g (lw_at lw_m3 132 rfl) rfl
theorem q703 : (Jvm.Cond.methodLink "LaneCrowdsLaw" (123 : Nat) ({ cls := "LaneCrowdsLaw", name := "foresee", desc := "(LLaneCrowds;II[J)I" } : Jvm.MethodName)) ∈ lw_all := lw_g (lw_at lw_m3 187 rfl) rfl
theorem q704 : (Jvm.Cond.static ({ cls := "LaneCrowdsLaw", name := "foresee", desc := "(LLaneCrowds;II[J)I" } : Jvm.MethodName)) ∈ lw_all := lw_g (lw_at lw_m3 188 rfl) rfl
theorem q705 : (Jvm.Cond.codeWith ({ cls := "LaneCrowdsLaw", name := "foresee", desc := "(LLaneCrowds;II[J)I" } : Jvm.MethodName) method_16_code (5 : Nat) (Option.some Jvm.ClassFile.FieldType.int) [((0 : Nat), (10 : Nat), (13 : Nat), (21 : Nat)), ((0 : Nat), (10 : Nat), (17 : Nat), (13 : Nat))]) ∈ lw_all := lw_g (lw_at lw_m3 189 rfl) rfl
theorem q706 : (Jvm.Cond.methodLink "LaneCrowdsLaw" (60 : Nat) ({ cls := "LaneCrowds", name := "foresee", desc := "(II)I" } : Jvm.MethodName)) ∈ lw_all := lw_g (lw_at lw_m3 190 rfl) rfl
theorem q734 : (Jvm.Cond.methodLink "LaneCrowdsLaw" (126 : Nat) ({ cls := "LaneCrowdsLaw", name := "advise", desc := "(LLaneCrowds;I[J)I" } : Jvm.MethodName)) ∈ lw_all := lw_g (lw_at lw_m3 218 rfl) rfl
theorem q735 : (Jvm.Cond.static ({ cls := "LaneCrowdsLaw", name := "advise", desc := "(LLaneCrowds;I[J)I" } : Jvm.MethodName)) ∈ lw_all := lw_g (lw_at lw_m3 219 rfl) rfl
theorem q736 : (Jvm.Cond.codeWith ({ cls := "LaneCrowdsLaw", name := "advise", desc := "(LLaneCrowds;I[J)I" } : Jvm.MethodName) method_17_code (4 : Nat) (Option.some Jvm.ClassFile.FieldType.int) [((0 : Nat), (9 : Nat), (12 : Nat), (13 : Nat))]) ∈ lw_all := lw_g (lw_at lw_m3 220 rfl) rfl
theorem q737 : (Jvm.Cond.methodLink "LaneCrowdsLaw" (63 : Nat) ({ cls := "LaneCrowds", name := "advise", desc := "(I)I" } : Jvm.MethodName)) ∈ lw_all := lw_g (lw_at lw_m3 221 rfl) rfl
theorem q749 : (Jvm.Cond.classLink "LaneCrowdsLaw" (67 : Nat) "LaneCrowdsModel") ∈ lw_all := lw_g (lw_at lw_m3 233 rfl) rfl
theorem q751 : (Jvm.Cond.methodLink "LaneCrowdsLaw" (69 : Nat) ({ cls := "LaneCrowdsModel", name := "<init>", desc := "()V" } : Jvm.MethodName)) ∈ lw_all := lw_g (lw_at lw_m3 235 rfl) rfl
theorem q838 : (Jvm.Cond.methodLink "LaneCrowdsLaw" (76 : Nat) ({ cls := "LaneCrowdsModel", name := "thrown", desc := "()I" } : Jvm.MethodName)) ∈ lw_all := lw_g (lw_at lw_m4 82 rfl) rfl
theorem q842 : (Jvm.Cond.methodLink "LaneCrowdsLaw" (75 : Nat) ({ cls := "LaneCrowdsModel", name := "house", desc := "(II)Z" } : Jvm.MethodName)) ∈ lw_all := lw_g (lw_at lw_m4 86 rfl) rfl
theorem q860 : (Jvm.Cond.methodLink "LaneCrowdsLaw" (83 : Nat) ({ cls := "LaneCrowdsModel", name := "block", desc := "(III)I" } : Jvm.MethodName)) ∈ lw_all := lw_g (lw_at lw_m4 104 rfl) rfl
theorem q864 : (Jvm.Cond.methodLink "LaneCrowdsLaw" (86 : Nat) ({ cls := "LaneCrowdsModel", name := "cell", desc := "(II)I" } : Jvm.MethodName)) ∈ lw_all := lw_g (lw_at lw_m4 108 rfl) rfl
theorem q868 : (Jvm.Cond.methodLink "LaneCrowdsLaw" (89 : Nat) ({ cls := "LaneCrowdsModel", name := "gather", desc := "(III)I" } : Jvm.MethodName)) ∈ lw_all := lw_g (lw_at lw_m4 112 rfl) rfl
theorem q872 : (Jvm.Cond.methodLink "LaneCrowdsLaw" (92 : Nat) ({ cls := "LaneCrowdsModel", name := "order", desc := "(II)I" } : Jvm.MethodName)) ∈ lw_all := lw_g (lw_at lw_m4 116 rfl) rfl
theorem q880 : (Jvm.Cond.methodLink "LaneCrowdsLaw" (96 : Nat) ({ cls := "LaneCrowdsModel", name := "torch", desc := "(I)Z" } : Jvm.MethodName)) ∈ lw_all := lw_g (lw_at lw_m4 124 rfl) rfl
theorem q884 : (Jvm.Cond.methodLink "LaneCrowdsLaw" (100 : Nat) ({ cls := "LaneCrowdsModel", name := "patrol", desc := "(IIII)I" } : Jvm.MethodName)) ∈ lw_all := lw_g (lw_at lw_m4 128 rfl) rfl
theorem q888 : (Jvm.Cond.methodLink "LaneCrowdsLaw" (103 : Nat) ({ cls := "LaneCrowdsModel", name := "crowd", desc := "(II)I" } : Jvm.MethodName)) ∈ lw_all := lw_g (lw_at lw_m4 132 rfl) rfl
theorem q906 : (Jvm.Cond.methodLink "LaneCrowdsLaw" (106 : Nat) ({ cls := "LaneCrowdsModel", name := "guard", desc := "(II)I" } : Jvm.MethodName)) ∈ lw_all := lw_g (lw_at lw_m4 150 rfl) rfl
theorem q919 : (Jvm.Cond.methodLink "LaneCrowdsLaw" (109 : Nat) ({ cls := "LaneCrowdsModel", name := "sees", desc := "(II)Z" } : Jvm.MethodName)) ∈ lw_all := lw_g (lw_at lw_m4 163 rfl) rfl
theorem q923 : (Jvm.Cond.methodLink "LaneCrowdsLaw" (112 : Nat) ({ cls := "LaneCrowdsModel", name := "count", desc := "(I)I" } : Jvm.MethodName)) ∈ lw_all := lw_g (lw_at lw_m4 167 rfl) rfl
theorem q944 : (Jvm.Cond.methodLink "LaneCrowdsLaw" (115 : Nat) ({ cls := "LaneCrowdsModel", name := "way", desc := "(IIII)I" } : Jvm.MethodName)) ∈ lw_all := lw_g (lw_at lw_m4 188 rfl) rfl
theorem q955 : (Jvm.Cond.methodLink "LaneCrowdsLaw" (119 : Nat) ({ cls := "LaneCrowdsModel", name := "shuts", desc := "()I" } : Jvm.MethodName)) ∈ lw_all := lw_g (lw_at lw_m4 199 rfl) rfl
theorem q972 : (Jvm.Cond.methodLink "LaneCrowdsLaw" (122 : Nat) ({ cls := "LaneCrowdsModel", name := "pass", desc := "(I)I" } : Jvm.MethodName)) ∈ lw_all := lw_g (lw_at lw_m4 216 rfl) rfl
theorem q1012 : (Jvm.Cond.methodLink "LaneCrowdsLaw" (125 : Nat) ({ cls := "LaneCrowdsModel", name := "foresee", desc := "(II)I" } : Jvm.MethodName)) ∈ lw_all := lw_g (lw_at lw_m5 16 rfl) rfl
theorem q1024 : (Jvm.Cond.methodLink "LaneCrowdsLaw" (128 : Nat) ({ cls := "LaneCrowdsModel", name := "advise", desc := "(I)I" } : Jvm.MethodName)) ∈ lw_all := lw_g (lw_at lw_m5 28 rfl) rfl
theorem q1028 : (Jvm.Cond.methodLink "LaneCrowdsLaw" (133 : Nat) ({ cls := "LaneCrowdsModel", name := "mean", desc := "()D" } : Jvm.MethodName)) ∈ lw_all := lw_g (lw_at lw_m5 32 rfl) rfl
theorem q1032 : (Jvm.Cond.methodLink "LaneCrowdsLaw" (138 : Nat) ({ cls := "LaneCrowdsModel", name := "digest", desc := "()J" } : Jvm.MethodName)) ∈ lw_all := lw_g (lw_at lw_m5 36 rfl) rfl
