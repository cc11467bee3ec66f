/-! LaneCrowds$Crowd -/
set_option maxRecDepth 100000
def RX5 : String := "LaneCrowds$Crowd"
def TX5 : u_T := fun k => match k with
  | 0 => ("LaneCrowds$Crowd", "cell", "I", false)
  | 1 => ("LaneCrowds$Crowd", "people", "I", false)
  | 2 => ("LaneCrowds$Crowd", "burns", "Z", false)
  | 3 => ("LaneCrowds$Crowd", "missed", "I", false)
  | _ => ("LaneCrowds$Crowd", "orders", "Ljava/util/ArrayList;", true)
def tyX5 : Nat → FieldType := fun k => match k with
  | 0 => .int
  | 1 => .int
  | 2 => .boolean
  | 3 => .int
  | _ => .object "java/util/ArrayList"
abbrev wsX50 : List Cond := u_ws RX5 TX5 5
theorem nmX5 : ∀ a, a < 5 → ∀ b, b < 5 → a ≠ b → (TX5 a).2.1 ≠ (TX5 b).2.1 := by decide +kernel
theorem tyX5_ok : ∀ k, k < 5 → parseFieldDescriptor (TX5 k).2.2.1 = some (tyX5 k) := by decide +kernel
abbrev cX5_isThere : ByteArray := prog_2_method_3_code
def yX5_isThere : MethodName := ⟨RX5, "isThere", "()Z"⟩
def dkwX5_isThere_0 : List UInt8 := [42, 180, 0, 26, 158, 0, 7, 4, 167, 0, 4, 3, 172]
abbrev dktX5_isThere_0 : List UInt8 := dkwX5_isThere_0 ++ []
theorem dksX5_isThere_0 : cX5_isThere.data.toList.drop 0 = dktX5_isThere_0 := by decide +kernel
theorem dX5_isThere_0 : decode cX5_isThere 0 = .ok (.aload_n 0, 1) := dk_42 (dk_at dksX5_isThere_0 0 rfl rfl)
theorem dX5_isThere_1 : decode cX5_isThere 1 = .ok (.getfield 26, 3) := dk_180 0 26 (dk_at dksX5_isThere_0 1 rfl rfl)
theorem dX5_isThere_4 : decode cX5_isThere 4 = .ok (.ifCond .le 7, 3) := dk_158 0 7 (dk_at dksX5_isThere_0 4 rfl rfl)
theorem dX5_isThere_7 : decode cX5_isThere 7 = .ok (.iconst 1, 1) := dk_4 (dk_at dksX5_isThere_0 7 rfl rfl)
theorem dX5_isThere_8 : decode cX5_isThere 8 = .ok (.goto 4, 3) := dk_167 0 4 (dk_at dksX5_isThere_0 8 rfl rfl)
theorem dX5_isThere_11 : decode cX5_isThere 11 = .ok (.iconst 0, 1) := dk_3 (dk_at dksX5_isThere_0 11 rfl rfl)
theorem dX5_isThere_12 : decode cX5_isThere 12 = .ok (.ireturn, 1) := dk_172 (dk_at dksX5_isThere_0 12 rfl rfl)
abbrev cX5_isSeenFrom : ByteArray := prog_2_method_4_code
def yX5_isSeenFrom : MethodName := ⟨RX5, "isSeenFrom", "()I"⟩
def dkwX5_isSeenFrom_0 : List UInt8 := [42, 180, 0, 9, 153, 0, 7, 7, 167, 0, 4, 4, 172]
abbrev dktX5_isSeenFrom_0 : List UInt8 := dkwX5_isSeenFrom_0 ++ []
theorem dksX5_isSeenFrom_0 : cX5_isSeenFrom.data.toList.drop 0 = dktX5_isSeenFrom_0 := by decide +kernel
theorem dX5_isSeenFrom_0 : decode cX5_isSeenFrom 0 = .ok (.aload_n 0, 1) := dk_42 (dk_at dksX5_isSeenFrom_0 0 rfl rfl)
theorem dX5_isSeenFrom_1 : decode cX5_isSeenFrom 1 = .ok (.getfield 9, 3) := dk_180 0 9 (dk_at dksX5_isSeenFrom_0 1 rfl rfl)
theorem dX5_isSeenFrom_4 : decode cX5_isSeenFrom 4 = .ok (.ifCond .eq 7, 3) := dk_153 0 7 (dk_at dksX5_isSeenFrom_0 4 rfl rfl)
theorem dX5_isSeenFrom_7 : decode cX5_isSeenFrom 7 = .ok (.iconst 4, 1) := dk_7 (dk_at dksX5_isSeenFrom_0 7 rfl rfl)
theorem dX5_isSeenFrom_8 : decode cX5_isSeenFrom 8 = .ok (.goto 4, 3) := dk_167 0 4 (dk_at dksX5_isSeenFrom_0 8 rfl rfl)
theorem dX5_isSeenFrom_11 : decode cX5_isSeenFrom 11 = .ok (.iconst 1, 1) := dk_4 (dk_at dksX5_isSeenFrom_0 11 rfl rfl)
theorem dX5_isSeenFrom_12 : decode cX5_isSeenFrom 12 = .ok (.ireturn, 1) := dk_172 (dk_at dksX5_isSeenFrom_0 12 rfl rfl)
abbrev cX5_init : ByteArray := prog_2_method_1_code
def yX5_init : MethodName := ⟨RX5, "<init>", "(II)V"⟩
def dkwX5_init_1 : List UInt8 := [181, 0, 22, 42, 28, 181, 0, 26, 177]
abbrev dktX5_init_1 : List UInt8 := dkwX5_init_1 ++ []
def dkwX5_init_0 : List UInt8 := [42, 183, 0, 3, 42, 4, 181, 0, 9, 42, 187, 0, 15, 89, 183, 0, 17, 181, 0, 18, 42, 27]
abbrev dktX5_init_0 : List UInt8 := dkwX5_init_0 ++ dktX5_init_1
theorem dksX5_init_0 : cX5_init.data.toList.drop 0 = dktX5_init_0 := by decide +kernel
theorem dksX5_init_1 : cX5_init.data.toList.drop 22 = dktX5_init_1 := dk_seg dksX5_init_0 22 rfl rfl
theorem dX5_init_0 : decode cX5_init 0 = .ok (.aload_n 0, 1) := dk_42 (dk_at dksX5_init_0 0 rfl rfl)
theorem dX5_init_1 : decode cX5_init 1 = .ok (.invokespecial 3, 3) := dk_183 0 3 (dk_at dksX5_init_0 1 rfl rfl)
theorem dX5_init_4 : decode cX5_init 4 = .ok (.aload_n 0, 1) := dk_42 (dk_at dksX5_init_0 4 rfl rfl)
theorem dX5_init_5 : decode cX5_init 5 = .ok (.iconst 1, 1) := dk_4 (dk_at dksX5_init_0 5 rfl rfl)
theorem dX5_init_6 : decode cX5_init 6 = .ok (.putfield 9, 3) := dk_181 0 9 (dk_at dksX5_init_0 6 rfl rfl)
theorem dX5_init_9 : decode cX5_init 9 = .ok (.aload_n 0, 1) := dk_42 (dk_at dksX5_init_0 9 rfl rfl)
theorem dX5_init_10 : decode cX5_init 10 = .ok (.new 15, 3) := dk_187 0 15 (dk_at dksX5_init_0 10 rfl rfl)
theorem dX5_init_13 : decode cX5_init 13 = .ok (.dup, 1) := dk_89 (dk_at dksX5_init_0 13 rfl rfl)
theorem dX5_init_14 : decode cX5_init 14 = .ok (.invokespecial 17, 3) := dk_183 0 17 (dk_at dksX5_init_0 14 rfl rfl)
theorem dX5_init_17 : decode cX5_init 17 = .ok (.putfield 18, 3) := dk_181 0 18 (dk_at dksX5_init_0 17 rfl rfl)
theorem dX5_init_20 : decode cX5_init 20 = .ok (.aload_n 0, 1) := dk_42 (dk_at dksX5_init_0 20 rfl rfl)
theorem dX5_init_21 : decode cX5_init 21 = .ok (.iload_n 1, 1) := dk_27 (dk_at dksX5_init_0 21 rfl rfl)
theorem dX5_init_22 : decode cX5_init 22 = .ok (.putfield 22, 3) := dk_181 0 22 (dk_at dksX5_init_1 0 rfl rfl)
theorem dX5_init_25 : decode cX5_init 25 = .ok (.aload_n 0, 1) := dk_42 (dk_at dksX5_init_1 3 rfl rfl)
theorem dX5_init_26 : decode cX5_init 26 = .ok (.iload_n 2, 1) := dk_28 (dk_at dksX5_init_1 4 rfl rfl)
theorem dX5_init_27 : decode cX5_init 27 = .ok (.putfield 26, 3) := dk_181 0 26 (dk_at dksX5_init_1 5 rfl rfl)
theorem dX5_init_30 : decode cX5_init 30 = .ok (.return_, 1) := dk_177 (dk_at dksX5_init_1 8 rfl rfl)
abbrev cX5_copy : ByteArray := prog_2_method_2_code
def yX5_copy : MethodName := ⟨RX5, "copy", "()LLaneCrowds$Crowd;"⟩
def dkwX5_copy_3 : List UInt8 := [43, 176]
abbrev dktX5_copy_3 : List UInt8 := dkwX5_copy_3 ++ []
def dkwX5_copy_2 : List UInt8 := [180, 0, 18, 42, 180, 0, 18, 28, 182, 0, 39, 192, 0, 43, 182, 0, 45, 87, 132, 2, 1, 167, 255, 223]
abbrev dktX5_copy_2 : List UInt8 := dkwX5_copy_2 ++ dktX5_copy_3
def dkwX5_copy_1 : List UInt8 := [43, 42, 180, 0, 32, 181, 0, 32, 3, 61, 28, 42, 180, 0, 18, 182, 0, 35, 162, 0, 28, 43]
abbrev dktX5_copy_1 : List UInt8 := dkwX5_copy_1 ++ dktX5_copy_2
def dkwX5_copy_0 : List UInt8 := [187, 0, 10, 89, 42, 180, 0, 22, 42, 180, 0, 26, 183, 0, 29, 76, 43, 42, 180, 0, 9, 181, 0, 9]
abbrev dktX5_copy_0 : List UInt8 := dkwX5_copy_0 ++ dktX5_copy_1
theorem dksX5_copy_0 : cX5_copy.data.toList.drop 0 = dktX5_copy_0 := by decide +kernel
theorem dksX5_copy_1 : cX5_copy.data.toList.drop 24 = dktX5_copy_1 := dk_seg dksX5_copy_0 24 rfl rfl
theorem dksX5_copy_2 : cX5_copy.data.toList.drop 46 = dktX5_copy_2 := dk_seg dksX5_copy_1 22 rfl rfl
theorem dksX5_copy_3 : cX5_copy.data.toList.drop 70 = dktX5_copy_3 := dk_seg dksX5_copy_2 24 rfl rfl
theorem dX5_copy_0 : decode cX5_copy 0 = .ok (.new 10, 3) := dk_187 0 10 (dk_at dksX5_copy_0 0 rfl rfl)
theorem dX5_copy_3 : decode cX5_copy 3 = .ok (.dup, 1) := dk_89 (dk_at dksX5_copy_0 3 rfl rfl)
theorem dX5_copy_4 : decode cX5_copy 4 = .ok (.aload_n 0, 1) := dk_42 (dk_at dksX5_copy_0 4 rfl rfl)
theorem dX5_copy_5 : decode cX5_copy 5 = .ok (.getfield 22, 3) := dk_180 0 22 (dk_at dksX5_copy_0 5 rfl rfl)
theorem dX5_copy_8 : decode cX5_copy 8 = .ok (.aload_n 0, 1) := dk_42 (dk_at dksX5_copy_0 8 rfl rfl)
theorem dX5_copy_9 : decode cX5_copy 9 = .ok (.getfield 26, 3) := dk_180 0 26 (dk_at dksX5_copy_0 9 rfl rfl)
theorem dX5_copy_12 : decode cX5_copy 12 = .ok (.invokespecial 29, 3) := dk_183 0 29 (dk_at dksX5_copy_0 12 rfl rfl)
theorem dX5_copy_15 : decode cX5_copy 15 = .ok (.astore_n 1, 1) := dk_76 (dk_at dksX5_copy_0 15 rfl rfl)
theorem dX5_copy_16 : decode cX5_copy 16 = .ok (.aload_n 1, 1) := dk_43 (dk_at dksX5_copy_0 16 rfl rfl)
theorem dX5_copy_17 : decode cX5_copy 17 = .ok (.aload_n 0, 1) := dk_42 (dk_at dksX5_copy_0 17 rfl rfl)
theorem dX5_copy_18 : decode cX5_copy 18 = .ok (.getfield 9, 3) := dk_180 0 9 (dk_at dksX5_copy_0 18 rfl rfl)
theorem dX5_copy_21 : decode cX5_copy 21 = .ok (.putfield 9, 3) := dk_181 0 9 (dk_at dksX5_copy_0 21 rfl rfl)
theorem dX5_copy_24 : decode cX5_copy 24 = .ok (.aload_n 1, 1) := dk_43 (dk_at dksX5_copy_1 0 rfl rfl)
theorem dX5_copy_25 : decode cX5_copy 25 = .ok (.aload_n 0, 1) := dk_42 (dk_at dksX5_copy_1 1 rfl rfl)
theorem dX5_copy_26 : decode cX5_copy 26 = .ok (.getfield 32, 3) := dk_180 0 32 (dk_at dksX5_copy_1 2 rfl rfl)
theorem dX5_copy_29 : decode cX5_copy 29 = .ok (.putfield 32, 3) := dk_181 0 32 (dk_at dksX5_copy_1 5 rfl rfl)
theorem dX5_copy_32 : decode cX5_copy 32 = .ok (.iconst 0, 1) := dk_3 (dk_at dksX5_copy_1 8 rfl rfl)
theorem dX5_copy_33 : decode cX5_copy 33 = .ok (.istore_n 2, 1) := dk_61 (dk_at dksX5_copy_1 9 rfl rfl)
theorem dX5_copy_34 : decode cX5_copy 34 = .ok (.iload_n 2, 1) := dk_28 (dk_at dksX5_copy_1 10 rfl rfl)
theorem dX5_copy_35 : decode cX5_copy 35 = .ok (.aload_n 0, 1) := dk_42 (dk_at dksX5_copy_1 11 rfl rfl)
theorem dX5_copy_36 : decode cX5_copy 36 = .ok (.getfield 18, 3) := dk_180 0 18 (dk_at dksX5_copy_1 12 rfl rfl)
theorem dX5_copy_39 : decode cX5_copy 39 = .ok (.invokevirtual 35, 3) := dk_182 0 35 (dk_at dksX5_copy_1 15 rfl rfl)
theorem dX5_copy_42 : decode cX5_copy 42 = .ok (.if_icmp .ge 28, 3) := dk_162 0 28 (dk_at dksX5_copy_1 18 rfl rfl)
theorem dX5_copy_45 : decode cX5_copy 45 = .ok (.aload_n 1, 1) := dk_43 (dk_at dksX5_copy_1 21 rfl rfl)
theorem dX5_copy_46 : decode cX5_copy 46 = .ok (.getfield 18, 3) := dk_180 0 18 (dk_at dksX5_copy_2 0 rfl rfl)
theorem dX5_copy_49 : decode cX5_copy 49 = .ok (.aload_n 0, 1) := dk_42 (dk_at dksX5_copy_2 3 rfl rfl)
theorem dX5_copy_50 : decode cX5_copy 50 = .ok (.getfield 18, 3) := dk_180 0 18 (dk_at dksX5_copy_2 4 rfl rfl)
theorem dX5_copy_53 : decode cX5_copy 53 = .ok (.iload_n 2, 1) := dk_28 (dk_at dksX5_copy_2 7 rfl rfl)
theorem dX5_copy_54 : decode cX5_copy 54 = .ok (.invokevirtual 39, 3) := dk_182 0 39 (dk_at dksX5_copy_2 8 rfl rfl)
theorem dX5_copy_57 : decode cX5_copy 57 = .ok (.checkcast 43, 3) := dk_192 0 43 (dk_at dksX5_copy_2 11 rfl rfl)
theorem dX5_copy_60 : decode cX5_copy 60 = .ok (.invokevirtual 45, 3) := dk_182 0 45 (dk_at dksX5_copy_2 14 rfl rfl)
theorem dX5_copy_63 : decode cX5_copy 63 = .ok (.pop, 1) := dk_87 (dk_at dksX5_copy_2 17 rfl rfl)
theorem dX5_copy_64 : decode cX5_copy 64 = .ok (.iinc 2 1, 3) := dk_132 2 1 (dk_at dksX5_copy_2 18 rfl rfl)
theorem dX5_copy_67 : decode cX5_copy 67 = .ok (.goto (-33), 3) := dk_167 255 223 (dk_at dksX5_copy_2 21 rfl rfl)
theorem dX5_copy_70 : decode cX5_copy 70 = .ok (.aload_n 1, 1) := dk_43 (dk_at dksX5_copy_3 0 rfl rfl)
theorem dX5_copy_71 : decode cX5_copy 71 = .ok (.areturn, 1) := dk_176 (dk_at dksX5_copy_3 1 rfl rfl)
theorem q54 : (Jvm.Cond.initialized "LaneCrowds$Crowd") ∈ lw_all := lw_g (lw_at lw_m1 18 rfl) rfl
theorem q176 : (Jvm.Cond.instanceMethod ({ cls := "LaneCrowds$Crowd", name := "isThere", desc := "()Z" } : Jvm.MethodName)) ∈ lw_all := lw_g (lw_at lw_m1 140 rfl) rfl
theorem q177 : (Jvm.Cond.selects "LaneCrowds$Crowd" ({ cls := "LaneCrowds$Crowd", name := "isThere", desc := "()Z" } : Jvm.MethodName) ({ cls := "LaneCrowds$Crowd", name := "isThere", desc := "()Z" } : Jvm.MethodName)) ∈ lw_all := lw_g (lw_at lw_m1 141 rfl) rfl
theorem q178 : (Jvm.Cond.code ({ cls := "LaneCrowds$Crowd", name := "isThere", desc := "()Z" } : Jvm.MethodName) prog_2_method_3_code (1 : Nat) (Option.some Jvm.ClassFile.FieldType.boolean)) ∈ lw_all := lw_g (lw_at lw_m1 142 rfl) rfl
theorem q237 : (Jvm.Cond.instanceMethod ({ cls := "LaneCrowds$Crowd", name := "isSeenFrom", desc := "()I" } : Jvm.MethodName)) ∈ lw_all := lw_g (lw_at lw_m1 201 rfl) rfl
theorem q238 : (Jvm.Cond.selects "LaneCrowds$Crowd" ({ cls := "LaneCrowds$Crowd", name := "isSeenFrom", desc := "()I" } : Jvm.MethodName) ({ cls := "LaneCrowds$Crowd", name := "isSeenFrom", desc := "()I" } : Jvm.MethodName)) ∈ lw_all := lw_g (lw_at lw_m1 202 rfl) rfl
theorem q239 : (Jvm.Cond.code ({ cls := "LaneCrowds$Crowd", name := "isSeenFrom", desc := "()I" } : Jvm.MethodName) prog_2_method_4_code (1 : Nat) (Option.some Jvm.ClassFile.FieldType.int)) ∈ lw_all := lw_g (lw_at lw_m1 203 rfl) rfl
theorem q439 : (Jvm.Cond.instantiable "LaneCrowds$Crowd" (5 : Nat)) ∈ lw_all := lw_g (lw_at lw_m2 163 rfl) rfl
theorem q441 : (Jvm.Cond.instanceMethod ({ cls := "LaneCrowds$Crowd", name := "<init>", desc := "(II)V" } : Jvm.MethodName)) ∈ lw_all := lw_g (lw_at lw_m2 165 rfl) rfl
theorem q442 : (Jvm.Cond.code ({ cls := "LaneCrowds$Crowd", name := "<init>", desc := "(II)V" } : Jvm.MethodName) prog_2_method_1_code (3 : Nat) (Option.none : Option Jvm.ClassFile.FieldType)) ∈ lw_all := lw_g (lw_at lw_m2 166 rfl) rfl
theorem q443 : (Jvm.Cond.methodLink "LaneCrowds$Crowd" (3 : Nat) ({ cls := "java/lang/Object", name := "<init>", desc := "()V" } : Jvm.MethodName)) ∈ lw_all := lw_g (lw_at lw_m2 167 rfl) rfl
theorem q444 : (Jvm.Cond.classLink "LaneCrowds$Crowd" (15 : Nat) "java/util/ArrayList") ∈ lw_all := lw_g (lw_at lw_m2 168 rfl) rfl
theorem q445 : (Jvm.Cond.methodLink "LaneCrowds$Crowd" (17 : Nat) ({ cls := "java/util/ArrayList", name := "<init>", desc := "()V" } : Jvm.MethodName)) ∈ lw_all := lw_g (lw_at lw_m2 169 rfl) rfl
theorem q446 : (Jvm.Cond.fieldLink "LaneCrowds$Crowd" (22 : Nat) "LaneCrowds$Crowd" "cell" "I") ∈ lw_all := lw_g (lw_at lw_m2 170 rfl) rfl
theorem q449 : (Jvm.Cond.fieldLink "LaneCrowds$Crowd" (26 : Nat) "LaneCrowds$Crowd" "people" "I") ∈ lw_all := lw_g (lw_at lw_m2 173 rfl) rfl
theorem q452 : (Jvm.Cond.fieldLink "LaneCrowds$Crowd" (9 : Nat) "LaneCrowds$Crowd" "burns" "Z") ∈ lw_all := lw_g (lw_at lw_m2 176 rfl) rfl
theorem q454 : (Jvm.Cond.fieldLink "LaneCrowds$Crowd" (32 : Nat) "LaneCrowds$Crowd" "missed" "I") ∈ lw_all := lw_g (lw_at lw_m2 178 rfl) rfl
theorem q457 : (Jvm.Cond.fieldLink "LaneCrowds$Crowd" (18 : Nat) "LaneCrowds$Crowd" "orders" "Ljava/util/ArrayList;") ∈ lw_all := lw_g (lw_at lw_m2 181 rfl) rfl
theorem q460 : (Jvm.Cond.lays "LaneCrowds$Crowd" "LaneCrowds$Crowd" "cell" "I") ∈ lw_all := lw_g (lw_at lw_m2 184 rfl) rfl
theorem q461 : (Jvm.Cond.soleField "LaneCrowds$Crowd" "cell") ∈ lw_all := lw_g (lw_at lw_m2 185 rfl) rfl
theorem q462 : (Jvm.Cond.lays "LaneCrowds$Crowd" "LaneCrowds$Crowd" "people" "I") ∈ lw_all := lw_g (lw_at lw_m2 186 rfl) rfl
theorem q463 : (Jvm.Cond.soleField "LaneCrowds$Crowd" "people") ∈ lw_all := lw_g (lw_at lw_m2 187 rfl) rfl
theorem q464 : (Jvm.Cond.lays "LaneCrowds$Crowd" "LaneCrowds$Crowd" "burns" "Z") ∈ lw_all := lw_g (lw_at lw_m2 188 rfl) rfl
theorem q465 : (Jvm.Cond.soleField "LaneCrowds$Crowd" "burns") ∈ lw_all := lw_g (lw_at lw_m2 189 rfl) rfl
theorem q466 : (Jvm.Cond.lays "LaneCrowds$Crowd" "LaneCrowds$Crowd" "missed" "I") ∈ lw_all := lw_g (lw_at lw_m2 190 rfl) rfl
theorem q467 : (Jvm.Cond.soleField "LaneCrowds$Crowd" "missed") ∈ lw_all := lw_g (lw_at lw_m2 191 rfl) rfl
theorem q468 : (Jvm.Cond.laysFinal "LaneCrowds$Crowd" "LaneCrowds$Crowd" "orders" "Ljava/util/ArrayList;") ∈ lw_all := lw_g (lw_at lw_m2 192 rfl) rfl
theorem q469 : (Jvm.Cond.soleField "LaneCrowds$Crowd" "orders") ∈ lw_all := lw_g (lw_at lw_m2 193 rfl) rfl
theorem q470 : (Jvm.Cond.superclass "LaneCrowds$Crowd" "java/lang/Object") ∈ lw_all := lw_g (lw_at lw_m2 194 rfl) rfl
theorem q502 : (Jvm.Cond.selects "LaneCrowds$Crowd" ({ cls := "java/lang/Object", name := "getClass", desc := "()Ljava/lang/Class;" } : Jvm.MethodName) ({ cls := "java/lang/Object", name := "getClass", desc := "()Ljava/lang/Class;" } : Jvm.MethodName)) ∈ lw_all := lw_g (lw_at lw_m2 226 rfl) rfl
theorem q718 : (Jvm.Cond.instanceMethod ({ cls := "LaneCrowds$Crowd", name := "copy", desc := "()LLaneCrowds$Crowd;" } : Jvm.MethodName)) ∈ lw_all := lw_g (lw_at lw_m3 202 rfl) rfl
theorem q719 : (Jvm.Cond.selects "LaneCrowds$Crowd" ({ cls := "LaneCrowds$Crowd", name := "copy", desc := "()LLaneCrowds$Crowd;" } : Jvm.MethodName) ({ cls := "LaneCrowds$Crowd", name := "copy", desc := "()LLaneCrowds$Crowd;" } : Jvm.MethodName)) ∈ lw_all := lw_g (lw_at lw_m3 203 rfl) rfl
theorem q720 : (Jvm.Cond.code ({ cls := "LaneCrowds$Crowd", name := "copy", desc := "()LLaneCrowds$Crowd;" } : Jvm.MethodName) prog_2_method_2_code (3 : Nat) (Option.some (Jvm.ClassFile.FieldType.object "LaneCrowds$Crowd"))) ∈ lw_all := lw_g (lw_at lw_m3 204 rfl) rfl
theorem q721 : (Jvm.Cond.classLink "LaneCrowds$Crowd" (10 : Nat) "LaneCrowds$Crowd") ∈ lw_all := lw_g (lw_at lw_m3 205 rfl) rfl
theorem q722 : (Jvm.Cond.methodLink "LaneCrowds$Crowd" (29 : Nat) ({ cls := "LaneCrowds$Crowd", name := "<init>", desc := "(II)V" } : Jvm.MethodName)) ∈ lw_all := lw_g (lw_at lw_m3 206 rfl) rfl
theorem q723 : (Jvm.Cond.methodLink "LaneCrowds$Crowd" (35 : Nat) ({ cls := "java/util/ArrayList", name := "size", desc := "()I" } : Jvm.MethodName)) ∈ lw_all := lw_g (lw_at lw_m3 207 rfl) rfl
theorem q724 : (Jvm.Cond.methodLink "LaneCrowds$Crowd" (39 : Nat) ({ cls := "java/util/ArrayList", name := "get", desc := "(I)Ljava/lang/Object;" } : Jvm.MethodName)) ∈ lw_all := lw_g (lw_at lw_m3 208 rfl) rfl
theorem q725 : (Jvm.Cond.classLink "LaneCrowds$Crowd" (43 : Nat) "java/lang/Integer") ∈ lw_all := lw_g (lw_at lw_m3 209 rfl) rfl
theorem q726 : (Jvm.Cond.methodLink "LaneCrowds$Crowd" (45 : Nat) ({ cls := "java/util/ArrayList", name := "add", desc := "(Ljava/lang/Object;)Z" } : Jvm.MethodName)) ∈ lw_all := lw_g (lw_at lw_m3 210 rfl) rfl
theorem q1051 : (Jvm.Cond.castable "LaneCrowds$Crowd" "java/lang/Object") ∈ lw_tbl := lw_at lw_m5 55 rfl
theorem in_X5 : ∀ w ∈ wsX50, w ∈ lw_all := lw_in wsX50 [460, 462, 464, 466, 468] (by decide +kernel) (by decide +kernel)
/-! LaneCrowds$Patrol -/
set_option maxRecDepth 100000
def RX6 : String := "LaneCrowds$Patrol"
def TX6 : u_T := fun k => match k with
  | 0 => ("LaneCrowds$Patrol", "cell", "I", false)
  | 1 => ("LaneCrowds$Patrol", "round", "[I", true)
  | _ => ("LaneCrowds$Patrol", "next", "I", false)
def tyX6 : Nat → FieldType := fun k => match k with
  | 0 => .int
  | 1 => .array .int
  | _ => .int
abbrev wsX60 : List Cond := u_ws RX6 TX6 3
theorem nmX6 : ∀ a, a < 3 → ∀ b, b < 3 → a ≠ b → (TX6 a).2.1 ≠ (TX6 b).2.1 := by decide +kernel
theorem tyX6_ok : ∀ k, k < 3 → parseFieldDescriptor (TX6 k).2.2.1 = some (tyX6 k) := by decide +kernel
abbrev cX6_direction : ByteArray := prog_3_method_3_code
def yX6_direction : MethodName := ⟨RX6, "direction", "()I"⟩
def dkwX6_direction_0 : List UInt8 := [42, 180, 0, 13, 42, 180, 0, 20, 46, 172]
abbrev dktX6_direction_0 : List UInt8 := dkwX6_direction_0 ++ []
theorem dksX6_direction_0 : cX6_direction.data.toList.drop 0 = dktX6_direction_0 := by decide +kernel
theorem dX6_direction_0 : decode cX6_direction 0 = .ok (.aload_n 0, 1) := dk_42 (dk_at dksX6_direction_0 0 rfl rfl)
theorem dX6_direction_1 : decode cX6_direction 1 = .ok (.getfield 13, 3) := dk_180 0 13 (dk_at dksX6_direction_0 1 rfl rfl)
theorem dX6_direction_4 : decode cX6_direction 4 = .ok (.aload_n 0, 1) := dk_42 (dk_at dksX6_direction_0 4 rfl rfl)
theorem dX6_direction_5 : decode cX6_direction 5 = .ok (.getfield 20, 3) := dk_180 0 20 (dk_at dksX6_direction_0 5 rfl rfl)
theorem dX6_direction_8 : decode cX6_direction 8 = .ok (.iaload, 1) := dk_46 (dk_at dksX6_direction_0 8 rfl rfl)
theorem dX6_direction_9 : decode cX6_direction 9 = .ok (.ireturn, 1) := dk_172 (dk_at dksX6_direction_0 9 rfl rfl)
abbrev cX6_init : ByteArray := prog_3_method_1_code
def yX6_init : MethodName := ⟨RX6, "<init>", "(I[I)V"⟩
def dkwX6_init_0 : List UInt8 := [42, 183, 0, 1, 42, 27, 181, 0, 7, 42, 44, 181, 0, 13, 177]
abbrev dktX6_init_0 : List UInt8 := dkwX6_init_0 ++ []
theorem dksX6_init_0 : cX6_init.data.toList.drop 0 = dktX6_init_0 := by decide +kernel
theorem dX6_init_0 : decode cX6_init 0 = .ok (.aload_n 0, 1) := dk_42 (dk_at dksX6_init_0 0 rfl rfl)
theorem dX6_init_1 : decode cX6_init 1 = .ok (.invokespecial 1, 3) := dk_183 0 1 (dk_at dksX6_init_0 1 rfl rfl)
theorem dX6_init_4 : decode cX6_init 4 = .ok (.aload_n 0, 1) := dk_42 (dk_at dksX6_init_0 4 rfl rfl)
theorem dX6_init_5 : decode cX6_init 5 = .ok (.iload_n 1, 1) := dk_27 (dk_at dksX6_init_0 5 rfl rfl)
theorem dX6_init_6 : decode cX6_init 6 = .ok (.putfield 7, 3) := dk_181 0 7 (dk_at dksX6_init_0 6 rfl rfl)
theorem dX6_init_9 : decode cX6_init 9 = .ok (.aload_n 0, 1) := dk_42 (dk_at dksX6_init_0 9 rfl rfl)
theorem dX6_init_10 : decode cX6_init 10 = .ok (.aload_n 2, 1) := dk_44 (dk_at dksX6_init_0 10 rfl rfl)
theorem dX6_init_11 : decode cX6_init 11 = .ok (.putfield 13, 3) := dk_181 0 13 (dk_at dksX6_init_0 11 rfl rfl)
theorem dX6_init_14 : decode cX6_init 14 = .ok (.return_, 1) := dk_177 (dk_at dksX6_init_0 14 rfl rfl)
abbrev cX6_goOn : ByteArray := prog_3_method_4_code
def yX6_goOn : MethodName := ⟨RX6, "goOn", "()V"⟩
def dkwX6_goOn_0 : List UInt8 := [42, 42, 180, 0, 20, 4, 96, 42, 180, 0, 13, 190, 112, 181, 0, 20, 177]
abbrev dktX6_goOn_0 : List UInt8 := dkwX6_goOn_0 ++ []
theorem dksX6_goOn_0 : cX6_goOn.data.toList.drop 0 = dktX6_goOn_0 := by decide +kernel
theorem dX6_goOn_0 : decode cX6_goOn 0 = .ok (.aload_n 0, 1) := dk_42 (dk_at dksX6_goOn_0 0 rfl rfl)
theorem dX6_goOn_1 : decode cX6_goOn 1 = .ok (.aload_n 0, 1) := dk_42 (dk_at dksX6_goOn_0 1 rfl rfl)
theorem dX6_goOn_2 : decode cX6_goOn 2 = .ok (.getfield 20, 3) := dk_180 0 20 (dk_at dksX6_goOn_0 2 rfl rfl)
theorem dX6_goOn_5 : decode cX6_goOn 5 = .ok (.iconst 1, 1) := dk_4 (dk_at dksX6_goOn_0 5 rfl rfl)
theorem dX6_goOn_6 : decode cX6_goOn 6 = .ok (.iadd, 1) := dk_96 (dk_at dksX6_goOn_0 6 rfl rfl)
theorem dX6_goOn_7 : decode cX6_goOn 7 = .ok (.aload_n 0, 1) := dk_42 (dk_at dksX6_goOn_0 7 rfl rfl)
theorem dX6_goOn_8 : decode cX6_goOn 8 = .ok (.getfield 13, 3) := dk_180 0 13 (dk_at dksX6_goOn_0 8 rfl rfl)
theorem dX6_goOn_11 : decode cX6_goOn 11 = .ok (.arraylength, 1) := dk_190 (dk_at dksX6_goOn_0 11 rfl rfl)
theorem dX6_goOn_12 : decode cX6_goOn 12 = .ok (.irem, 1) := dk_112 (dk_at dksX6_goOn_0 12 rfl rfl)
theorem dX6_goOn_13 : decode cX6_goOn 13 = .ok (.putfield 20, 3) := dk_181 0 20 (dk_at dksX6_goOn_0 13 rfl rfl)
theorem dX6_goOn_16 : decode cX6_goOn 16 = .ok (.return_, 1) := dk_177 (dk_at dksX6_goOn_0 16 rfl rfl)
abbrev cX6_copy : ByteArray := prog_3_method_2_code
def yX6_copy : MethodName := ⟨RX6, "copy", "()LLaneCrowds$Patrol;"⟩
def dkwX6_copy_1 : List UInt8 := [43, 176]
abbrev dktX6_copy_1 : List UInt8 := dkwX6_copy_1 ++ []
def dkwX6_copy_0 : List UInt8 := [187, 0, 8, 89, 42, 180, 0, 7, 42, 180, 0, 13, 183, 0, 17, 76, 43, 42, 180, 0, 20, 181, 0, 20]
abbrev dktX6_copy_0 : List UInt8 := dkwX6_copy_0 ++ dktX6_copy_1
theorem dksX6_copy_0 : cX6_copy.data.toList.drop 0 = dktX6_copy_0 := by decide +kernel
theorem dksX6_copy_1 : cX6_copy.data.toList.drop 24 = dktX6_copy_1 := dk_seg dksX6_copy_0 24 rfl rfl
theorem dX6_copy_0 : decode cX6_copy 0 = .ok (.new 8, 3) := dk_187 0 8 (dk_at dksX6_copy_0 0 rfl rfl)
theorem dX6_copy_3 : decode cX6_copy 3 = .ok (.dup, 1) := dk_89 (dk_at dksX6_copy_0 3 rfl rfl)
theorem dX6_copy_4 : decode cX6_copy 4 = .ok (.aload_n 0, 1) := dk_42 (dk_at dksX6_copy_0 4 rfl rfl)
theorem dX6_copy_5 : decode cX6_copy 5 = .ok (.getfield 7, 3) := dk_180 0 7 (dk_at dksX6_copy_0 5 rfl rfl)
theorem dX6_copy_8 : decode cX6_copy 8 = .ok (.aload_n 0, 1) := dk_42 (dk_at dksX6_copy_0 8 rfl rfl)
theorem dX6_copy_9 : decode cX6_copy 9 = .ok (.getfield 13, 3) := dk_180 0 13 (dk_at dksX6_copy_0 9 rfl rfl)
theorem dX6_copy_12 : decode cX6_copy 12 = .ok (.invokespecial 17, 3) := dk_183 0 17 (dk_at dksX6_copy_0 12 rfl rfl)
theorem dX6_copy_15 : decode cX6_copy 15 = .ok (.astore_n 1, 1) := dk_76 (dk_at dksX6_copy_0 15 rfl rfl)
theorem dX6_copy_16 : decode cX6_copy 16 = .ok (.aload_n 1, 1) := dk_43 (dk_at dksX6_copy_0 16 rfl rfl)
theorem dX6_copy_17 : decode cX6_copy 17 = .ok (.aload_n 0, 1) := dk_42 (dk_at dksX6_copy_0 17 rfl rfl)
theorem dX6_copy_18 : decode cX6_copy 18 = .ok (.getfield 20, 3) := dk_180 0 20 (dk_at dksX6_copy_0 18 rfl rfl)
theorem dX6_copy_21 : decode cX6_copy 21 = .ok (.putfield 20, 3) := dk_181 0 20 (dk_at dksX6_copy_0 21 rfl rfl)
theorem dX6_copy_24 : decode cX6_copy 24 = .ok (.aload_n 1, 1) := dk_43 (dk_at dksX6_copy_1 0 rfl rfl)
theorem dX6_copy_25 : decode cX6_copy 25 = .ok (.areturn, 1) := dk_176 (dk_at dksX6_copy_1 1 rfl rfl)
theorem q62 : (Jvm.Cond.initialized "LaneCrowds$Patrol") ∈ lw_all := lw_g (lw_at lw_m1 26 rfl) rfl
theorem q249 : (Jvm.Cond.instanceMethod ({ cls := "LaneCrowds$Patrol", name := "direction", desc := "()I" } : Jvm.MethodName)) ∈ lw_all := lw_g (lw_at lw_m1 213 rfl) rfl
theorem q250 : (Jvm.Cond.selects "LaneCrowds$Patrol" ({ cls := "LaneCrowds$Patrol", name := "direction", desc := "()I" } : Jvm.MethodName) ({ cls := "LaneCrowds$Patrol", name := "direction", desc := "()I" } : Jvm.MethodName)) ∈ lw_all := lw_g (lw_at lw_m1 214 rfl) rfl
theorem q251 : (Jvm.Cond.code ({ cls := "LaneCrowds$Patrol", name := "direction", desc := "()I" } : Jvm.MethodName) prog_3_method_3_code (1 : Nat) (Option.some Jvm.ClassFile.FieldType.int)) ∈ lw_all := lw_g (lw_at lw_m1 215 rfl) rfl
theorem q503 : (Jvm.Cond.selects "LaneCrowds$Patrol" ({ cls := "java/lang/Object", name := "getClass", desc := "()Ljava/lang/Class;" } : Jvm.MethodName) ({ cls := "java/lang/Object", name := "getClass", desc := "()Ljava/lang/Class;" } : Jvm.MethodName)) ∈ lw_all := lw_g (lw_at lw_m2 227 rfl) rfl
theorem q586 : (Jvm.Cond.instantiable "LaneCrowds$Patrol" (3 : Nat)) ∈ lw_all := lw_g (lw_at lw_m3 70 rfl) rfl
theorem q588 : (Jvm.Cond.instanceMethod ({ cls := "LaneCrowds$Patrol", name := "<init>", desc := "(I[I)V" } : Jvm.MethodName)) ∈ lw_all := lw_g (lw_at lw_m3 72 rfl) rfl
theorem q589 : (Jvm.Cond.code ({ cls := "LaneCrowds$Patrol", name := "<init>", desc := "(I[I)V" } : Jvm.MethodName) prog_3_method_1_code (3 : Nat) (Option.none : Option Jvm.ClassFile.FieldType)) ∈ lw_all := lw_g (lw_at lw_m3 73 rfl) rfl
theorem q590 : (Jvm.Cond.methodLink "LaneCrowds$Patrol" (1 : Nat) ({ cls := "java/lang/Object", name := "<init>", desc := "()V" } : Jvm.MethodName)) ∈ lw_all := lw_g (lw_at lw_m3 74 rfl) rfl
theorem q591 : (Jvm.Cond.fieldLink "LaneCrowds$Patrol" (7 : Nat) "LaneCrowds$Patrol" "cell" "I") ∈ lw_all := lw_g (lw_at lw_m3 75 rfl) rfl
theorem q594 : (Jvm.Cond.fieldLink "LaneCrowds$Patrol" (13 : Nat) "LaneCrowds$Patrol" "round" "[I") ∈ lw_all := lw_g (lw_at lw_m3 78 rfl) rfl
theorem q595 : (Jvm.Cond.fieldLink "LaneCrowds$Patrol" (20 : Nat) "LaneCrowds$Patrol" "next" "I") ∈ lw_all := lw_g (lw_at lw_m3 79 rfl) rfl
theorem q596 : (Jvm.Cond.lays "LaneCrowds$Patrol" "LaneCrowds$Patrol" "cell" "I") ∈ lw_all := lw_g (lw_at lw_m3 80 rfl) rfl
theorem q597 : (Jvm.Cond.soleField "LaneCrowds$Patrol" "cell") ∈ lw_all := lw_g (lw_at lw_m3 81 rfl) rfl
theorem q598 : (Jvm.Cond.laysFinal "LaneCrowds$Patrol" "LaneCrowds$Patrol" "round" "[I") ∈ lw_all := lw_g (lw_at lw_m3 82 rfl) rfl
theorem q599 : (Jvm.Cond.soleField "LaneCrowds$Patrol" "round") ∈ lw_all := lw_g (lw_at lw_m3 83 rfl) rfl
theorem q600 : (Jvm.Cond.lays "LaneCrowds$Patrol" "LaneCrowds$Patrol" "next" "I") ∈ lw_all := lw_g (lw_at lw_m3 84 rfl) rfl
theorem q601 : (Jvm.Cond.soleField "LaneCrowds$Patrol" "next") ∈ lw_all := lw_g (lw_at lw_m3 85 rfl) rfl
theorem q602 : (Jvm.Cond.superclass "LaneCrowds$Patrol" "java/lang/Object") ∈ lw_all := lw_g (lw_at lw_m3 86 rfl) rfl
theorem q699 : (Jvm.Cond.instanceMethod ({ cls := "LaneCrowds$Patrol", name := "goOn", desc := "()V" } : Jvm.MethodName)) ∈ lw_all := lw_g (lw_at lw_m3 183 rfl) rfl
theorem q700 : (Jvm.Cond.selects "LaneCrowds$Patrol" ({ cls := "LaneCrowds$Patrol", name := "goOn", desc := "()V" } : Jvm.MethodName) ({ cls := "LaneCrowds$Patrol", name := "goOn", desc := "()V" } : Jvm.MethodName)) ∈ lw_all := lw_g (lw_at lw_m3 184 rfl) rfl
theorem q701 : (Jvm.Cond.code ({ cls := "LaneCrowds$Patrol", name := "goOn", desc := "()V" } : Jvm.MethodName) prog_3_method_4_code (1 : Nat) (Option.none : Option Jvm.ClassFile.FieldType)) ∈ lw_all := lw_g (lw_at lw_m3 185 rfl) rfl
theorem q729 : (Jvm.Cond.instanceMethod ({ cls := "LaneCrowds$Patrol", name := "copy", desc := "()LLaneCrowds$Patrol;" } : Jvm.MethodName)) ∈ lw_all := lw_g (lw_at lw_m3 213 rfl) rfl
theorem q730 : (Jvm.Cond.selects "LaneCrowds$Patrol" ({ cls := "LaneCrowds$Patrol", name := "copy", desc := "()LLaneCrowds$Patrol;" } : Jvm.MethodName) ({ cls := "LaneCrowds$Patrol", name := "copy", desc := "()LLaneCrowds$Patrol;" } : Jvm.MethodName)) ∈ lw_all := lw_g (lw_at lw_m3 214 rfl) rfl
theorem q731 : (Jvm.Cond.code ({ cls := "LaneCrowds$Patrol", name := "copy", desc := "()LLaneCrowds$Patrol;" } : Jvm.MethodName) prog_3_method_2_code (2 : Nat) (Option.some (Jvm.ClassFile.FieldType.object "LaneCrowds$Patrol"))) ∈ lw_all := lw_g (lw_at lw_m3 215 rfl) rfl
theorem q732 : (Jvm.Cond.classLink "LaneCrowds$Patrol" (8 : Nat) "LaneCrowds$Patrol") ∈ lw_all := lw_g (lw_at lw_m3 216 rfl) rfl
theorem q733 : (Jvm.Cond.methodLink "LaneCrowds$Patrol" (17 : Nat) ({ cls := "LaneCrowds$Patrol", name := "<init>", desc := "(I[I)V" } : Jvm.MethodName)) ∈ lw_all := lw_g (lw_at lw_m3 217 rfl) rfl
theorem q1053 : (Jvm.Cond.castable "LaneCrowds$Patrol" "java/lang/Object") ∈ lw_tbl := lw_at lw_m5 57 rfl
theorem in_X6 : ∀ w ∈ wsX60, w ∈ lw_all := lw_in wsX60 [596, 598, 600] (by decide +kernel) (by decide +kernel)
