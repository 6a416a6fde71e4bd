/-! DrawerRingModel -/
set_option maxRecDepth 100000
def RX3 : String := "DrawerRingModel"
def TX3 : u_T := fun k => match k with
  | 0 => ("DrawerRingModel", "thrown", "I", false)
  | 1 => ("DrawerRingModel", "s", "[I", true)
  | 2 => ("DrawerRingModel", "aside", "[I", true)
  | 3 => ("DrawerRingModel", "saved", "[I", true)
  | 4 => ("DrawerRingModel", "savedMany", "I", false)
  | 5 => ("DrawerRingModel", "buffer", "[I", true)
  | 6 => ("DrawerRingModel", "length", "I", false)
  | 7 => ("DrawerRingModel", "at", "I", false)
  | 8 => ("DrawerRingModel", "isWell", "Z", false)
  | 9 => ("DrawerRingModel", "batch", "[I", true)
  | 10 => ("DrawerRingModel", "batchMany", "I", false)
  | 11 => ("DrawerRingModel", "order", "[I", true)
  | 12 => ("DrawerRingModel", "bestOrder", "[I", true)
  | 13 => ("DrawerRingModel", "isPicked", "[Z", true)
  | 14 => ("DrawerRingModel", "start", "[I", true)
  | _ => ("DrawerRingModel", "hash", "J", false)
def tyX3 : Nat → FieldType := fun k => match k with
  | 0 => .int
  | 1 => .array .int
  | 2 => .array .int
  | 3 => .array .int
  | 4 => .int
  | 5 => .array .int
  | 6 => .int
  | 7 => .int
  | 8 => .boolean
  | 9 => .array .int
  | 10 => .int
  | 11 => .array .int
  | 12 => .array .int
  | 13 => .array .boolean
  | 14 => .array .int
  | _ => .long
abbrev wsX30 : List Cond := u_ws RX3 TX3 16
set_option maxRecDepth 100000 in
theorem nmX3 : ∀ a, a < 16 → ∀ b, b < 16 → a ≠ b → (TX3 a).2.1 ≠ (TX3 b).2.1 := by decide +kernel
set_option maxRecDepth 100000 in
theorem tyX3_ok : ∀ k, k < 16 → parseFieldDescriptor (TX3 k).2.2.1 = some (tyX3 k) := by decide +kernel
abbrev cX3_init : ByteArray := prog_8_method_1_code
def yX3_init : MethodName := ⟨RX3, "<init>", "()V"⟩
def dkwX3_init_4 : List UInt8 := [180, 0, 7, 4, 16, 50, 79, 177]
abbrev dktX3_init_4 : List UInt8 := dkwX3_init_4 ++ []
def dkwX3_init_3 : List UInt8 := [42, 17, 0, 142, 188, 10, 181, 0, 35, 42, 3, 181, 0, 38, 42, 180, 0, 7, 3, 16, 60, 79, 42]
abbrev dktX3_init_3 : List UInt8 := dkwX3_init_3 ++ dktX3_init_4
def dkwX3_init_2 : List UInt8 := [42, 16, 6, 188, 10, 181, 0, 25, 42, 16, 6, 188, 10, 181, 0, 28, 42, 16, 6, 188, 4, 181, 0, 31]
abbrev dktX3_init_2 : List UInt8 := dkwX3_init_2 ++ dktX3_init_3
def dkwX3_init_1 : List UInt8 := [17, 3, 84, 188, 10, 181, 0, 16, 42, 16, 60, 188, 10, 181, 0, 19, 42, 16, 6, 188, 10, 181, 0, 22]
abbrev dktX3_init_1 : List UInt8 := dkwX3_init_1 ++ dktX3_init_2
def dkwX3_init_0 : List UInt8 := [42, 183, 0, 1, 42, 17, 0, 142, 188, 10, 181, 0, 7, 42, 17, 0, 142, 188, 10, 181, 0, 13, 42]
abbrev dktX3_init_0 : List UInt8 := dkwX3_init_0 ++ dktX3_init_1
theorem dksX3_init_0 : cX3_init.data.toList.drop 0 = dktX3_init_0 := by decide +kernel
theorem dksX3_init_1 : cX3_init.data.toList.drop 23 = dktX3_init_1 := dk_seg dksX3_init_0 23 rfl rfl
theorem dksX3_init_2 : cX3_init.data.toList.drop 47 = dktX3_init_2 := dk_seg dksX3_init_1 24 rfl rfl
theorem dksX3_init_3 : cX3_init.data.toList.drop 71 = dktX3_init_3 := dk_seg dksX3_init_2 24 rfl rfl
theorem dksX3_init_4 : cX3_init.data.toList.drop 94 = dktX3_init_4 := dk_seg dksX3_init_3 23 rfl rfl
theorem dX3_init_0 : decode cX3_init 0 = .ok (.aload_n 0, 1) := dk_42 (dk_at dksX3_init_0 0 rfl rfl)
theorem dX3_init_1 : decode cX3_init 1 = .ok (.invokespecial 1, 3) := dk_183 0 1 (dk_at dksX3_init_0 1 rfl rfl)
theorem dX3_init_4 : decode cX3_init 4 = .ok (.aload_n 0, 1) := dk_42 (dk_at dksX3_init_0 4 rfl rfl)
theorem dX3_init_5 : decode cX3_init 5 = .ok (.sipush 142, 3) := dk_17 0 142 (dk_at dksX3_init_0 5 rfl rfl)
theorem dX3_init_8 : decode cX3_init 8 = .ok (.newarray .int, 2) := dk_188_10 (dk_at dksX3_init_0 8 rfl rfl)
theorem dX3_init_10 : decode cX3_init 10 = .ok (.putfield 7, 3) := dk_181 0 7 (dk_at dksX3_init_0 10 rfl rfl)
theorem dX3_init_13 : decode cX3_init 13 = .ok (.aload_n 0, 1) := dk_42 (dk_at dksX3_init_0 13 rfl rfl)
theorem dX3_init_14 : decode cX3_init 14 = .ok (.sipush 142, 3) := dk_17 0 142 (dk_at dksX3_init_0 14 rfl rfl)
theorem dX3_init_17 : decode cX3_init 17 = .ok (.newarray .int, 2) := dk_188_10 (dk_at dksX3_init_0 17 rfl rfl)
theorem dX3_init_19 : decode cX3_init 19 = .ok (.putfield 13, 3) := dk_181 0 13 (dk_at dksX3_init_0 19 rfl rfl)
theorem dX3_init_22 : decode cX3_init 22 = .ok (.aload_n 0, 1) := dk_42 (dk_at dksX3_init_0 22 rfl rfl)
theorem dX3_init_23 : decode cX3_init 23 = .ok (.sipush 852, 3) := dk_17 3 84 (dk_at dksX3_init_1 0 rfl rfl)
theorem dX3_init_26 : decode cX3_init 26 = .ok (.newarray .int, 2) := dk_188_10 (dk_at dksX3_init_1 3 rfl rfl)
theorem dX3_init_28 : decode cX3_init 28 = .ok (.putfield 16, 3) := dk_181 0 16 (dk_at dksX3_init_1 5 rfl rfl)
theorem dX3_init_31 : decode cX3_init 31 = .ok (.aload_n 0, 1) := dk_42 (dk_at dksX3_init_1 8 rfl rfl)
theorem dX3_init_32 : decode cX3_init 32 = .ok (.bipush 60, 2) := dk_16 60 (dk_at dksX3_init_1 9 rfl rfl)
theorem dX3_init_34 : decode cX3_init 34 = .ok (.newarray .int, 2) := dk_188_10 (dk_at dksX3_init_1 11 rfl rfl)
theorem dX3_init_36 : decode cX3_init 36 = .ok (.putfield 19, 3) := dk_181 0 19 (dk_at dksX3_init_1 13 rfl rfl)
theorem dX3_init_39 : decode cX3_init 39 = .ok (.aload_n 0, 1) := dk_42 (dk_at dksX3_init_1 16 rfl rfl)
theorem dX3_init_40 : decode cX3_init 40 = .ok (.bipush 6, 2) := dk_16 6 (dk_at dksX3_init_1 17 rfl rfl)
theorem dX3_init_42 : decode cX3_init 42 = .ok (.newarray .int, 2) := dk_188_10 (dk_at dksX3_init_1 19 rfl rfl)
theorem dX3_init_44 : decode cX3_init 44 = .ok (.putfield 22, 3) := dk_181 0 22 (dk_at dksX3_init_1 21 rfl rfl)
theorem dX3_init_47 : decode cX3_init 47 = .ok (.aload_n 0, 1) := dk_42 (dk_at dksX3_init_2 0 rfl rfl)
theorem dX3_init_48 : decode cX3_init 48 = .ok (.bipush 6, 2) := dk_16 6 (dk_at dksX3_init_2 1 rfl rfl)
theorem dX3_init_50 : decode cX3_init 50 = .ok (.newarray .int, 2) := dk_188_10 (dk_at dksX3_init_2 3 rfl rfl)
theorem dX3_init_52 : decode cX3_init 52 = .ok (.putfield 25, 3) := dk_181 0 25 (dk_at dksX3_init_2 5 rfl rfl)
theorem dX3_init_55 : decode cX3_init 55 = .ok (.aload_n 0, 1) := dk_42 (dk_at dksX3_init_2 8 rfl rfl)
theorem dX3_init_56 : decode cX3_init 56 = .ok (.bipush 6, 2) := dk_16 6 (dk_at dksX3_init_2 9 rfl rfl)
theorem dX3_init_58 : decode cX3_init 58 = .ok (.newarray .int, 2) := dk_188_10 (dk_at dksX3_init_2 11 rfl rfl)
theorem dX3_init_60 : decode cX3_init 60 = .ok (.putfield 28, 3) := dk_181 0 28 (dk_at dksX3_init_2 13 rfl rfl)
theorem dX3_init_63 : decode cX3_init 63 = .ok (.aload_n 0, 1) := dk_42 (dk_at dksX3_init_2 16 rfl rfl)
theorem dX3_init_64 : decode cX3_init 64 = .ok (.bipush 6, 2) := dk_16 6 (dk_at dksX3_init_2 17 rfl rfl)
theorem dX3_init_66 : decode cX3_init 66 = .ok (.newarray .boolean, 2) := dk_188_4 (dk_at dksX3_init_2 19 rfl rfl)
theorem dX3_init_68 : decode cX3_init 68 = .ok (.putfield 31, 3) := dk_181 0 31 (dk_at dksX3_init_2 21 rfl rfl)
theorem dX3_init_71 : decode cX3_init 71 = .ok (.aload_n 0, 1) := dk_42 (dk_at dksX3_init_3 0 rfl rfl)
theorem dX3_init_72 : decode cX3_init 72 = .ok (.sipush 142, 3) := dk_17 0 142 (dk_at dksX3_init_3 1 rfl rfl)
theorem dX3_init_75 : decode cX3_init 75 = .ok (.newarray .int, 2) := dk_188_10 (dk_at dksX3_init_3 4 rfl rfl)
theorem dX3_init_77 : decode cX3_init 77 = .ok (.putfield 35, 3) := dk_181 0 35 (dk_at dksX3_init_3 6 rfl rfl)
theorem dX3_init_80 : decode cX3_init 80 = .ok (.aload_n 0, 1) := dk_42 (dk_at dksX3_init_3 9 rfl rfl)
theorem dX3_init_81 : decode cX3_init 81 = .ok (.iconst 0, 1) := dk_3 (dk_at dksX3_init_3 10 rfl rfl)
theorem dX3_init_82 : decode cX3_init 82 = .ok (.putfield 38, 3) := dk_181 0 38 (dk_at dksX3_init_3 11 rfl rfl)
theorem dX3_init_85 : decode cX3_init 85 = .ok (.aload_n 0, 1) := dk_42 (dk_at dksX3_init_3 14 rfl rfl)
theorem dX3_init_86 : decode cX3_init 86 = .ok (.getfield 7, 3) := dk_180 0 7 (dk_at dksX3_init_3 15 rfl rfl)
theorem dX3_init_89 : decode cX3_init 89 = .ok (.iconst 0, 1) := dk_3 (dk_at dksX3_init_3 18 rfl rfl)
theorem dX3_init_90 : decode cX3_init 90 = .ok (.bipush 60, 2) := dk_16 60 (dk_at dksX3_init_3 19 rfl rfl)
theorem dX3_init_92 : decode cX3_init 92 = .ok (.iastore, 1) := dk_79 (dk_at dksX3_init_3 21 rfl rfl)
theorem dX3_init_93 : decode cX3_init 93 = .ok (.aload_n 0, 1) := dk_42 (dk_at dksX3_init_3 22 rfl rfl)
theorem dX3_init_94 : decode cX3_init 94 = .ok (.getfield 7, 3) := dk_180 0 7 (dk_at dksX3_init_4 0 rfl rfl)
theorem dX3_init_97 : decode cX3_init 97 = .ok (.iconst 1, 1) := dk_4 (dk_at dksX3_init_4 3 rfl rfl)
theorem dX3_init_98 : decode cX3_init 98 = .ok (.bipush 50, 2) := dk_16 50 (dk_at dksX3_init_4 4 rfl rfl)
theorem dX3_init_100 : decode cX3_init 100 = .ok (.iastore, 1) := dk_79 (dk_at dksX3_init_4 6 rfl rfl)
theorem dX3_init_101 : decode cX3_init 101 = .ok (.return_, 1) := dk_177 (dk_at dksX3_init_4 7 rfl rfl)
abbrev cX3_thrown : ByteArray := prog_8_method_2_code
def yX3_thrown : MethodName := ⟨RX3, "thrown", "()I"⟩
theorem dX3_thrown_0 : decode cX3_thrown 0 = .ok (.aload_n 0, 1) := by decide +kernel
theorem dX3_thrown_1 : decode cX3_thrown 1 = .ok (.getfield 38, 3) := by decide +kernel
theorem dX3_thrown_4 : decode cX3_thrown 4 = .ok (.ireturn, 1) := by decide +kernel
abbrev cX3_put : ByteArray := prog_8_method_31_code
def yX3_put : MethodName := ⟨RX3, "put", "(II)I"⟩
def dkwX3_put_7 : List UInt8 := [46, 4, 96, 79, 42, 180, 0, 7, 16, 8, 46, 4, 100, 172]
abbrev dktX3_put_7 : List UInt8 := dkwX3_put_7 ++ []
def dkwX3_put_6 : List UInt8 := [42, 182, 0, 131, 42, 42, 180, 0, 7, 16, 8, 46, 28, 27, 182, 0, 127, 42, 180, 0, 7, 16, 8, 92]
abbrev dktX3_put_6 : List UInt8 := dkwX3_put_6 ++ dktX3_put_7
def dkwX3_put_5 : List UInt8 := [62, 42, 42, 180, 0, 7, 16, 9, 46, 4, 100, 182, 0, 80, 29, 154, 0, 9, 42, 6, 182, 0, 121, 172]
abbrev dktX3_put_5 : List UInt8 := dkwX3_put_5 ++ dktX3_put_6
def dkwX3_put_4 : List UInt8 := [42, 42, 180, 0, 7, 6, 46, 182, 0, 56, 42, 180, 0, 7, 3, 46, 163, 0, 7, 4, 167, 0, 4, 3]
abbrev dktX3_put_4 : List UInt8 := dkwX3_put_4 ++ dktX3_put_5
def dkwX3_put_3 : List UInt8 := [4, 46, 164, 0, 9, 42, 6, 182, 0, 121, 172, 42, 42, 180, 0, 7, 16, 8, 46, 28, 27, 182, 0, 127]
abbrev dktX3_put_3 : List UInt8 := dkwX3_put_3 ++ dktX3_put_4
def dkwX3_put_2 : List UInt8 := [42, 180, 0, 7, 16, 8, 46, 17, 3, 232, 159, 0, 19, 42, 27, 182, 0, 124, 28, 96, 42, 180, 0, 7]
abbrev dktX3_put_2 : List UInt8 := dkwX3_put_2 ++ dktX3_put_3
def dkwX3_put_1 : List UInt8 := [184, 0, 42, 154, 0, 9, 42, 5, 182, 0, 121, 172, 42, 180, 0, 7, 16, 9, 46, 16, 40, 159, 0, 32]
abbrev dktX3_put_1 : List UInt8 := dkwX3_put_1 ++ dktX3_put_2
def dkwX3_put_0 : List UInt8 := [42, 3, 181, 0, 38, 27, 184, 0, 117, 154, 0, 9, 42, 4, 182, 0, 121, 172, 28, 4, 16, 20]
abbrev dktX3_put_0 : List UInt8 := dkwX3_put_0 ++ dktX3_put_1
theorem dksX3_put_0 : cX3_put.data.toList.drop 0 = dktX3_put_0 := by decide +kernel
theorem dksX3_put_1 : cX3_put.data.toList.drop 22 = dktX3_put_1 := dk_seg dksX3_put_0 22 rfl rfl
theorem dksX3_put_2 : cX3_put.data.toList.drop 46 = dktX3_put_2 := dk_seg dksX3_put_1 24 rfl rfl
theorem dksX3_put_3 : cX3_put.data.toList.drop 70 = dktX3_put_3 := dk_seg dksX3_put_2 24 rfl rfl
theorem dksX3_put_4 : cX3_put.data.toList.drop 94 = dktX3_put_4 := dk_seg dksX3_put_3 24 rfl rfl
theorem dksX3_put_5 : cX3_put.data.toList.drop 118 = dktX3_put_5 := dk_seg dksX3_put_4 24 rfl rfl
theorem dksX3_put_6 : cX3_put.data.toList.drop 142 = dktX3_put_6 := dk_seg dksX3_put_5 24 rfl rfl
theorem dksX3_put_7 : cX3_put.data.toList.drop 166 = dktX3_put_7 := dk_seg dksX3_put_6 24 rfl rfl
theorem dX3_put_0 : decode cX3_put 0 = .ok (.aload_n 0, 1) := dk_42 (dk_at dksX3_put_0 0 rfl rfl)
theorem dX3_put_1 : decode cX3_put 1 = .ok (.iconst 0, 1) := dk_3 (dk_at dksX3_put_0 1 rfl rfl)
theorem dX3_put_2 : decode cX3_put 2 = .ok (.putfield 38, 3) := dk_181 0 38 (dk_at dksX3_put_0 2 rfl rfl)
theorem dX3_put_5 : decode cX3_put 5 = .ok (.iload_n 1, 1) := dk_27 (dk_at dksX3_put_0 5 rfl rfl)
theorem dX3_put_6 : decode cX3_put 6 = .ok (.invokestatic 117, 3) := dk_184 0 117 (dk_at dksX3_put_0 6 rfl rfl)
theorem dX3_put_9 : decode cX3_put 9 = .ok (.ifCond .ne 9, 3) := dk_154 0 9 (dk_at dksX3_put_0 9 rfl rfl)
theorem dX3_put_12 : decode cX3_put 12 = .ok (.aload_n 0, 1) := dk_42 (dk_at dksX3_put_0 12 rfl rfl)
theorem dX3_put_13 : decode cX3_put 13 = .ok (.iconst 1, 1) := dk_4 (dk_at dksX3_put_0 13 rfl rfl)
theorem dX3_put_14 : decode cX3_put 14 = .ok (.invokevirtual 121, 3) := dk_182 0 121 (dk_at dksX3_put_0 14 rfl rfl)
theorem dX3_put_17 : decode cX3_put 17 = .ok (.ireturn, 1) := dk_172 (dk_at dksX3_put_0 17 rfl rfl)
theorem dX3_put_18 : decode cX3_put 18 = .ok (.iload_n 2, 1) := dk_28 (dk_at dksX3_put_0 18 rfl rfl)
theorem dX3_put_19 : decode cX3_put 19 = .ok (.iconst 1, 1) := dk_4 (dk_at dksX3_put_0 19 rfl rfl)
theorem dX3_put_20 : decode cX3_put 20 = .ok (.bipush 20, 2) := dk_16 20 (dk_at dksX3_put_0 20 rfl rfl)
theorem dX3_put_22 : decode cX3_put 22 = .ok (.invokestatic 42, 3) := dk_184 0 42 (dk_at dksX3_put_1 0 rfl rfl)
theorem dX3_put_25 : decode cX3_put 25 = .ok (.ifCond .ne 9, 3) := dk_154 0 9 (dk_at dksX3_put_1 3 rfl rfl)
theorem dX3_put_28 : decode cX3_put 28 = .ok (.aload_n 0, 1) := dk_42 (dk_at dksX3_put_1 6 rfl rfl)
theorem dX3_put_29 : decode cX3_put 29 = .ok (.iconst 2, 1) := dk_5 (dk_at dksX3_put_1 7 rfl rfl)
theorem dX3_put_30 : decode cX3_put 30 = .ok (.invokevirtual 121, 3) := dk_182 0 121 (dk_at dksX3_put_1 8 rfl rfl)
theorem dX3_put_33 : decode cX3_put 33 = .ok (.ireturn, 1) := dk_172 (dk_at dksX3_put_1 11 rfl rfl)
theorem dX3_put_34 : decode cX3_put 34 = .ok (.aload_n 0, 1) := dk_42 (dk_at dksX3_put_1 12 rfl rfl)
theorem dX3_put_35 : decode cX3_put 35 = .ok (.getfield 7, 3) := dk_180 0 7 (dk_at dksX3_put_1 13 rfl rfl)
theorem dX3_put_38 : decode cX3_put 38 = .ok (.bipush 9, 2) := dk_16 9 (dk_at dksX3_put_1 16 rfl rfl)
theorem dX3_put_40 : decode cX3_put 40 = .ok (.iaload, 1) := dk_46 (dk_at dksX3_put_1 18 rfl rfl)
theorem dX3_put_41 : decode cX3_put 41 = .ok (.bipush 40, 2) := dk_16 40 (dk_at dksX3_put_1 19 rfl rfl)
theorem dX3_put_43 : decode cX3_put 43 = .ok (.if_icmp .eq 32, 3) := dk_159 0 32 (dk_at dksX3_put_1 21 rfl rfl)
theorem dX3_put_46 : decode cX3_put 46 = .ok (.aload_n 0, 1) := dk_42 (dk_at dksX3_put_2 0 rfl rfl)
theorem dX3_put_47 : decode cX3_put 47 = .ok (.getfield 7, 3) := dk_180 0 7 (dk_at dksX3_put_2 1 rfl rfl)
theorem dX3_put_50 : decode cX3_put 50 = .ok (.bipush 8, 2) := dk_16 8 (dk_at dksX3_put_2 4 rfl rfl)
theorem dX3_put_52 : decode cX3_put 52 = .ok (.iaload, 1) := dk_46 (dk_at dksX3_put_2 6 rfl rfl)
theorem dX3_put_53 : decode cX3_put 53 = .ok (.sipush 1000, 3) := dk_17 3 232 (dk_at dksX3_put_2 7 rfl rfl)
theorem dX3_put_56 : decode cX3_put 56 = .ok (.if_icmp .eq 19, 3) := dk_159 0 19 (dk_at dksX3_put_2 10 rfl rfl)
theorem dX3_put_59 : decode cX3_put 59 = .ok (.aload_n 0, 1) := dk_42 (dk_at dksX3_put_2 13 rfl rfl)
theorem dX3_put_60 : decode cX3_put 60 = .ok (.iload_n 1, 1) := dk_27 (dk_at dksX3_put_2 14 rfl rfl)
theorem dX3_put_61 : decode cX3_put 61 = .ok (.invokevirtual 124, 3) := dk_182 0 124 (dk_at dksX3_put_2 15 rfl rfl)
theorem dX3_put_64 : decode cX3_put 64 = .ok (.iload_n 2, 1) := dk_28 (dk_at dksX3_put_2 18 rfl rfl)
theorem dX3_put_65 : decode cX3_put 65 = .ok (.iadd, 1) := dk_96 (dk_at dksX3_put_2 19 rfl rfl)
theorem dX3_put_66 : decode cX3_put 66 = .ok (.aload_n 0, 1) := dk_42 (dk_at dksX3_put_2 20 rfl rfl)
theorem dX3_put_67 : decode cX3_put 67 = .ok (.getfield 7, 3) := dk_180 0 7 (dk_at dksX3_put_2 21 rfl rfl)
theorem dX3_put_70 : decode cX3_put 70 = .ok (.iconst 1, 1) := dk_4 (dk_at dksX3_put_3 0 rfl rfl)
theorem dX3_put_71 : decode cX3_put 71 = .ok (.iaload, 1) := dk_46 (dk_at dksX3_put_3 1 rfl rfl)
theorem dX3_put_72 : decode cX3_put 72 = .ok (.if_icmp .le 9, 3) := dk_164 0 9 (dk_at dksX3_put_3 2 rfl rfl)
theorem dX3_put_75 : decode cX3_put 75 = .ok (.aload_n 0, 1) := dk_42 (dk_at dksX3_put_3 5 rfl rfl)
theorem dX3_put_76 : decode cX3_put 76 = .ok (.iconst 3, 1) := dk_6 (dk_at dksX3_put_3 6 rfl rfl)
theorem dX3_put_77 : decode cX3_put 77 = .ok (.invokevirtual 121, 3) := dk_182 0 121 (dk_at dksX3_put_3 7 rfl rfl)
theorem dX3_put_80 : decode cX3_put 80 = .ok (.ireturn, 1) := dk_172 (dk_at dksX3_put_3 10 rfl rfl)
theorem dX3_put_81 : decode cX3_put 81 = .ok (.aload_n 0, 1) := dk_42 (dk_at dksX3_put_3 11 rfl rfl)
theorem dX3_put_82 : decode cX3_put 82 = .ok (.aload_n 0, 1) := dk_42 (dk_at dksX3_put_3 12 rfl rfl)
theorem dX3_put_83 : decode cX3_put 83 = .ok (.getfield 7, 3) := dk_180 0 7 (dk_at dksX3_put_3 13 rfl rfl)
theorem dX3_put_86 : decode cX3_put 86 = .ok (.bipush 8, 2) := dk_16 8 (dk_at dksX3_put_3 16 rfl rfl)
theorem dX3_put_88 : decode cX3_put 88 = .ok (.iaload, 1) := dk_46 (dk_at dksX3_put_3 18 rfl rfl)
theorem dX3_put_89 : decode cX3_put 89 = .ok (.iload_n 2, 1) := dk_28 (dk_at dksX3_put_3 19 rfl rfl)
theorem dX3_put_90 : decode cX3_put 90 = .ok (.iload_n 1, 1) := dk_27 (dk_at dksX3_put_3 20 rfl rfl)
theorem dX3_put_91 : decode cX3_put 91 = .ok (.invokevirtual 127, 3) := dk_182 0 127 (dk_at dksX3_put_3 21 rfl rfl)
theorem dX3_put_94 : decode cX3_put 94 = .ok (.aload_n 0, 1) := dk_42 (dk_at dksX3_put_4 0 rfl rfl)
theorem dX3_put_95 : decode cX3_put 95 = .ok (.aload_n 0, 1) := dk_42 (dk_at dksX3_put_4 1 rfl rfl)
theorem dX3_put_96 : decode cX3_put 96 = .ok (.getfield 7, 3) := dk_180 0 7 (dk_at dksX3_put_4 2 rfl rfl)
theorem dX3_put_99 : decode cX3_put 99 = .ok (.iconst 3, 1) := dk_6 (dk_at dksX3_put_4 5 rfl rfl)
theorem dX3_put_100 : decode cX3_put 100 = .ok (.iaload, 1) := dk_46 (dk_at dksX3_put_4 6 rfl rfl)
theorem dX3_put_101 : decode cX3_put 101 = .ok (.invokevirtual 56, 3) := dk_182 0 56 (dk_at dksX3_put_4 7 rfl rfl)
theorem dX3_put_104 : decode cX3_put 104 = .ok (.aload_n 0, 1) := dk_42 (dk_at dksX3_put_4 10 rfl rfl)
theorem dX3_put_105 : decode cX3_put 105 = .ok (.getfield 7, 3) := dk_180 0 7 (dk_at dksX3_put_4 11 rfl rfl)
theorem dX3_put_108 : decode cX3_put 108 = .ok (.iconst 0, 1) := dk_3 (dk_at dksX3_put_4 14 rfl rfl)
theorem dX3_put_109 : decode cX3_put 109 = .ok (.iaload, 1) := dk_46 (dk_at dksX3_put_4 15 rfl rfl)
theorem dX3_put_110 : decode cX3_put 110 = .ok (.if_icmp .gt 7, 3) := dk_163 0 7 (dk_at dksX3_put_4 16 rfl rfl)
theorem dX3_put_113 : decode cX3_put 113 = .ok (.iconst 1, 1) := dk_4 (dk_at dksX3_put_4 19 rfl rfl)
theorem dX3_put_114 : decode cX3_put 114 = .ok (.goto 4, 3) := dk_167 0 4 (dk_at dksX3_put_4 20 rfl rfl)
theorem dX3_put_117 : decode cX3_put 117 = .ok (.iconst 0, 1) := dk_3 (dk_at dksX3_put_4 23 rfl rfl)
theorem dX3_put_118 : decode cX3_put 118 = .ok (.istore_n 3, 1) := dk_62 (dk_at dksX3_put_5 0 rfl rfl)
theorem dX3_put_119 : decode cX3_put 119 = .ok (.aload_n 0, 1) := dk_42 (dk_at dksX3_put_5 1 rfl rfl)
theorem dX3_put_120 : decode cX3_put 120 = .ok (.aload_n 0, 1) := dk_42 (dk_at dksX3_put_5 2 rfl rfl)
theorem dX3_put_121 : decode cX3_put 121 = .ok (.getfield 7, 3) := dk_180 0 7 (dk_at dksX3_put_5 3 rfl rfl)
theorem dX3_put_124 : decode cX3_put 124 = .ok (.bipush 9, 2) := dk_16 9 (dk_at dksX3_put_5 6 rfl rfl)
theorem dX3_put_126 : decode cX3_put 126 = .ok (.iaload, 1) := dk_46 (dk_at dksX3_put_5 8 rfl rfl)
theorem dX3_put_127 : decode cX3_put 127 = .ok (.iconst 1, 1) := dk_4 (dk_at dksX3_put_5 9 rfl rfl)
theorem dX3_put_128 : decode cX3_put 128 = .ok (.isub, 1) := dk_100 (dk_at dksX3_put_5 10 rfl rfl)
theorem dX3_put_129 : decode cX3_put 129 = .ok (.invokevirtual 80, 3) := dk_182 0 80 (dk_at dksX3_put_5 11 rfl rfl)
theorem dX3_put_132 : decode cX3_put 132 = .ok (.iload_n 3, 1) := dk_29 (dk_at dksX3_put_5 14 rfl rfl)
theorem dX3_put_133 : decode cX3_put 133 = .ok (.ifCond .ne 9, 3) := dk_154 0 9 (dk_at dksX3_put_5 15 rfl rfl)
theorem dX3_put_136 : decode cX3_put 136 = .ok (.aload_n 0, 1) := dk_42 (dk_at dksX3_put_5 18 rfl rfl)
theorem dX3_put_137 : decode cX3_put 137 = .ok (.iconst 3, 1) := dk_6 (dk_at dksX3_put_5 19 rfl rfl)
theorem dX3_put_138 : decode cX3_put 138 = .ok (.invokevirtual 121, 3) := dk_182 0 121 (dk_at dksX3_put_5 20 rfl rfl)
theorem dX3_put_141 : decode cX3_put 141 = .ok (.ireturn, 1) := dk_172 (dk_at dksX3_put_5 23 rfl rfl)
theorem dX3_put_142 : decode cX3_put 142 = .ok (.aload_n 0, 1) := dk_42 (dk_at dksX3_put_6 0 rfl rfl)
theorem dX3_put_143 : decode cX3_put 143 = .ok (.invokevirtual 131, 3) := dk_182 0 131 (dk_at dksX3_put_6 1 rfl rfl)
theorem dX3_put_146 : decode cX3_put 146 = .ok (.aload_n 0, 1) := dk_42 (dk_at dksX3_put_6 4 rfl rfl)
theorem dX3_put_147 : decode cX3_put 147 = .ok (.aload_n 0, 1) := dk_42 (dk_at dksX3_put_6 5 rfl rfl)
theorem dX3_put_148 : decode cX3_put 148 = .ok (.getfield 7, 3) := dk_180 0 7 (dk_at dksX3_put_6 6 rfl rfl)
theorem dX3_put_151 : decode cX3_put 151 = .ok (.bipush 8, 2) := dk_16 8 (dk_at dksX3_put_6 9 rfl rfl)
theorem dX3_put_153 : decode cX3_put 153 = .ok (.iaload, 1) := dk_46 (dk_at dksX3_put_6 11 rfl rfl)
theorem dX3_put_154 : decode cX3_put 154 = .ok (.iload_n 2, 1) := dk_28 (dk_at dksX3_put_6 12 rfl rfl)
theorem dX3_put_155 : decode cX3_put 155 = .ok (.iload_n 1, 1) := dk_27 (dk_at dksX3_put_6 13 rfl rfl)
theorem dX3_put_156 : decode cX3_put 156 = .ok (.invokevirtual 127, 3) := dk_182 0 127 (dk_at dksX3_put_6 14 rfl rfl)
theorem dX3_put_159 : decode cX3_put 159 = .ok (.aload_n 0, 1) := dk_42 (dk_at dksX3_put_6 17 rfl rfl)
theorem dX3_put_160 : decode cX3_put 160 = .ok (.getfield 7, 3) := dk_180 0 7 (dk_at dksX3_put_6 18 rfl rfl)
theorem dX3_put_163 : decode cX3_put 163 = .ok (.bipush 8, 2) := dk_16 8 (dk_at dksX3_put_6 21 rfl rfl)
theorem dX3_put_165 : decode cX3_put 165 = .ok (.dup2, 1) := dk_92 (dk_at dksX3_put_6 23 rfl rfl)
theorem dX3_put_166 : decode cX3_put 166 = .ok (.iaload, 1) := dk_46 (dk_at dksX3_put_7 0 rfl rfl)
theorem dX3_put_167 : decode cX3_put 167 = .ok (.iconst 1, 1) := dk_4 (dk_at dksX3_put_7 1 rfl rfl)
theorem dX3_put_168 : decode cX3_put 168 = .ok (.iadd, 1) := dk_96 (dk_at dksX3_put_7 2 rfl rfl)
theorem dX3_put_169 : decode cX3_put 169 = .ok (.iastore, 1) := dk_79 (dk_at dksX3_put_7 3 rfl rfl)
theorem dX3_put_170 : decode cX3_put 170 = .ok (.aload_n 0, 1) := dk_42 (dk_at dksX3_put_7 4 rfl rfl)
theorem dX3_put_171 : decode cX3_put 171 = .ok (.getfield 7, 3) := dk_180 0 7 (dk_at dksX3_put_7 5 rfl rfl)
theorem dX3_put_174 : decode cX3_put 174 = .ok (.bipush 8, 2) := dk_16 8 (dk_at dksX3_put_7 8 rfl rfl)
theorem dX3_put_176 : decode cX3_put 176 = .ok (.iaload, 1) := dk_46 (dk_at dksX3_put_7 10 rfl rfl)
theorem dX3_put_177 : decode cX3_put 177 = .ok (.iconst 1, 1) := dk_4 (dk_at dksX3_put_7 11 rfl rfl)
theorem dX3_put_178 : decode cX3_put 178 = .ok (.isub, 1) := dk_100 (dk_at dksX3_put_7 12 rfl rfl)
theorem dX3_put_179 : decode cX3_put 179 = .ok (.ireturn, 1) := dk_172 (dk_at dksX3_put_7 13 rfl rfl)
abbrev cX3_isDrawer : ByteArray := prog_8_method_5_code
def yX3_isDrawer : MethodName := ⟨RX3, "isDrawer", "(I)Z"⟩
def dkwX3_isDrawer_0 : List UInt8 := [26, 3, 16, 11, 184, 0, 42, 172]
abbrev dktX3_isDrawer_0 : List UInt8 := dkwX3_isDrawer_0 ++ []
theorem dksX3_isDrawer_0 : cX3_isDrawer.data.toList.drop 0 = dktX3_isDrawer_0 := by decide +kernel
theorem dX3_isDrawer_0 : decode cX3_isDrawer 0 = .ok (.iload_n 0, 1) := dk_26 (dk_at dksX3_isDrawer_0 0 rfl rfl)
theorem dX3_isDrawer_1 : decode cX3_isDrawer 1 = .ok (.iconst 0, 1) := dk_3 (dk_at dksX3_isDrawer_0 1 rfl rfl)
theorem dX3_isDrawer_2 : decode cX3_isDrawer 2 = .ok (.bipush 11, 2) := dk_16 11 (dk_at dksX3_isDrawer_0 2 rfl rfl)
theorem dX3_isDrawer_4 : decode cX3_isDrawer 4 = .ok (.invokestatic 42, 3) := dk_184 0 42 (dk_at dksX3_isDrawer_0 4 rfl rfl)
theorem dX3_isDrawer_7 : decode cX3_isDrawer 7 = .ok (.ireturn, 1) := dk_172 (dk_at dksX3_isDrawer_0 7 rfl rfl)
abbrev cX3_in : ByteArray := prog_8_method_3_code
def yX3_in : MethodName := ⟨RX3, "in", "(III)Z"⟩
def dkwX3_in_0 : List UInt8 := [26, 27, 161, 0, 12, 26, 28, 163, 0, 7, 4, 167, 0, 4, 3, 172]
abbrev dktX3_in_0 : List UInt8 := dkwX3_in_0 ++ []
theorem dksX3_in_0 : cX3_in.data.toList.drop 0 = dktX3_in_0 := by decide +kernel
theorem dX3_in_0 : decode cX3_in 0 = .ok (.iload_n 0, 1) := dk_26 (dk_at dksX3_in_0 0 rfl rfl)
theorem dX3_in_1 : decode cX3_in 1 = .ok (.iload_n 1, 1) := dk_27 (dk_at dksX3_in_0 1 rfl rfl)
theorem dX3_in_2 : decode cX3_in 2 = .ok (.if_icmp .lt 12, 3) := dk_161 0 12 (dk_at dksX3_in_0 2 rfl rfl)
theorem dX3_in_5 : decode cX3_in 5 = .ok (.iload_n 0, 1) := dk_26 (dk_at dksX3_in_0 5 rfl rfl)
theorem dX3_in_6 : decode cX3_in 6 = .ok (.iload_n 2, 1) := dk_28 (dk_at dksX3_in_0 6 rfl rfl)
theorem dX3_in_7 : decode cX3_in 7 = .ok (.if_icmp .gt 7, 3) := dk_163 0 7 (dk_at dksX3_in_0 7 rfl rfl)
theorem dX3_in_10 : decode cX3_in 10 = .ok (.iconst 1, 1) := dk_4 (dk_at dksX3_in_0 10 rfl rfl)
theorem dX3_in_11 : decode cX3_in 11 = .ok (.goto 4, 3) := dk_167 0 4 (dk_at dksX3_in_0 11 rfl rfl)
theorem dX3_in_14 : decode cX3_in 14 = .ok (.iconst 0, 1) := dk_3 (dk_at dksX3_in_0 14 rfl rfl)
theorem dX3_in_15 : decode cX3_in 15 = .ok (.ireturn, 1) := dk_172 (dk_at dksX3_in_0 15 rfl rfl)
abbrev cX3_fails : ByteArray := prog_8_method_4_code
def yX3_fails : MethodName := ⟨RX3, "fails", "(I)I"⟩
def dkwX3_fails_0 : List UInt8 := [42, 27, 181, 0, 38, 3, 172]
abbrev dktX3_fails_0 : List UInt8 := dkwX3_fails_0 ++ []
theorem dksX3_fails_0 : cX3_fails.data.toList.drop 0 = dktX3_fails_0 := by decide +kernel
theorem dX3_fails_0 : decode cX3_fails 0 = .ok (.aload_n 0, 1) := dk_42 (dk_at dksX3_fails_0 0 rfl rfl)
theorem dX3_fails_1 : decode cX3_fails 1 = .ok (.iload_n 1, 1) := dk_27 (dk_at dksX3_fails_0 1 rfl rfl)
theorem dX3_fails_2 : decode cX3_fails 2 = .ok (.putfield 38, 3) := dk_181 0 38 (dk_at dksX3_fails_0 2 rfl rfl)
theorem dX3_fails_5 : decode cX3_fails 5 = .ok (.iconst 0, 1) := dk_3 (dk_at dksX3_fails_0 5 rfl rfl)
theorem dX3_fails_6 : decode cX3_fails 6 = .ok (.ireturn, 1) := dk_172 (dk_at dksX3_fails_0 6 rfl rfl)
abbrev cX3_loadOf : ByteArray := prog_8_method_8_code
def yX3_loadOf : MethodName := ⟨RX3, "loadOf", "(I)I"⟩
def dkwX3_loadOf_1 : List UInt8 := [160, 0, 12, 42, 29, 4, 182, 0, 49, 167, 0, 4, 3, 96, 61, 132, 3, 1, 167, 255, 219, 28, 172]
abbrev dktX3_loadOf_1 : List UInt8 := dkwX3_loadOf_1 ++ []
def dkwX3_loadOf_0 : List UInt8 := [3, 61, 3, 62, 29, 42, 180, 0, 7, 16, 9, 46, 162, 0, 32, 28, 42, 29, 5, 182, 0, 49, 27]
abbrev dktX3_loadOf_0 : List UInt8 := dkwX3_loadOf_0 ++ dktX3_loadOf_1
theorem dksX3_loadOf_0 : cX3_loadOf.data.toList.drop 0 = dktX3_loadOf_0 := by decide +kernel
theorem dksX3_loadOf_1 : cX3_loadOf.data.toList.drop 23 = dktX3_loadOf_1 := dk_seg dksX3_loadOf_0 23 rfl rfl
theorem dX3_loadOf_0 : decode cX3_loadOf 0 = .ok (.iconst 0, 1) := dk_3 (dk_at dksX3_loadOf_0 0 rfl rfl)
theorem dX3_loadOf_1 : decode cX3_loadOf 1 = .ok (.istore_n 2, 1) := dk_61 (dk_at dksX3_loadOf_0 1 rfl rfl)
theorem dX3_loadOf_2 : decode cX3_loadOf 2 = .ok (.iconst 0, 1) := dk_3 (dk_at dksX3_loadOf_0 2 rfl rfl)
theorem dX3_loadOf_3 : decode cX3_loadOf 3 = .ok (.istore_n 3, 1) := dk_62 (dk_at dksX3_loadOf_0 3 rfl rfl)
theorem dX3_loadOf_4 : decode cX3_loadOf 4 = .ok (.iload_n 3, 1) := dk_29 (dk_at dksX3_loadOf_0 4 rfl rfl)
theorem dX3_loadOf_5 : decode cX3_loadOf 5 = .ok (.aload_n 0, 1) := dk_42 (dk_at dksX3_loadOf_0 5 rfl rfl)
theorem dX3_loadOf_6 : decode cX3_loadOf 6 = .ok (.getfield 7, 3) := dk_180 0 7 (dk_at dksX3_loadOf_0 6 rfl rfl)
theorem dX3_loadOf_9 : decode cX3_loadOf 9 = .ok (.bipush 9, 2) := dk_16 9 (dk_at dksX3_loadOf_0 9 rfl rfl)
theorem dX3_loadOf_11 : decode cX3_loadOf 11 = .ok (.iaload, 1) := dk_46 (dk_at dksX3_loadOf_0 11 rfl rfl)
theorem dX3_loadOf_12 : decode cX3_loadOf 12 = .ok (.if_icmp .ge 32, 3) := dk_162 0 32 (dk_at dksX3_loadOf_0 12 rfl rfl)
theorem dX3_loadOf_15 : decode cX3_loadOf 15 = .ok (.iload_n 2, 1) := dk_28 (dk_at dksX3_loadOf_0 15 rfl rfl)
theorem dX3_loadOf_16 : decode cX3_loadOf 16 = .ok (.aload_n 0, 1) := dk_42 (dk_at dksX3_loadOf_0 16 rfl rfl)
theorem dX3_loadOf_17 : decode cX3_loadOf 17 = .ok (.iload_n 3, 1) := dk_29 (dk_at dksX3_loadOf_0 17 rfl rfl)
theorem dX3_loadOf_18 : decode cX3_loadOf 18 = .ok (.iconst 2, 1) := dk_5 (dk_at dksX3_loadOf_0 18 rfl rfl)
theorem dX3_loadOf_19 : decode cX3_loadOf 19 = .ok (.invokevirtual 49, 3) := dk_182 0 49 (dk_at dksX3_loadOf_0 19 rfl rfl)
theorem dX3_loadOf_22 : decode cX3_loadOf 22 = .ok (.iload_n 1, 1) := dk_27 (dk_at dksX3_loadOf_0 22 rfl rfl)
theorem dX3_loadOf_23 : decode cX3_loadOf 23 = .ok (.if_icmp .ne 12, 3) := dk_160 0 12 (dk_at dksX3_loadOf_1 0 rfl rfl)
theorem dX3_loadOf_26 : decode cX3_loadOf 26 = .ok (.aload_n 0, 1) := dk_42 (dk_at dksX3_loadOf_1 3 rfl rfl)
theorem dX3_loadOf_27 : decode cX3_loadOf 27 = .ok (.iload_n 3, 1) := dk_29 (dk_at dksX3_loadOf_1 4 rfl rfl)
theorem dX3_loadOf_28 : decode cX3_loadOf 28 = .ok (.iconst 1, 1) := dk_4 (dk_at dksX3_loadOf_1 5 rfl rfl)
theorem dX3_loadOf_29 : decode cX3_loadOf 29 = .ok (.invokevirtual 49, 3) := dk_182 0 49 (dk_at dksX3_loadOf_1 6 rfl rfl)
theorem dX3_loadOf_32 : decode cX3_loadOf 32 = .ok (.goto 4, 3) := dk_167 0 4 (dk_at dksX3_loadOf_1 9 rfl rfl)
theorem dX3_loadOf_35 : decode cX3_loadOf 35 = .ok (.iconst 0, 1) := dk_3 (dk_at dksX3_loadOf_1 12 rfl rfl)
theorem dX3_loadOf_36 : decode cX3_loadOf 36 = .ok (.iadd, 1) := dk_96 (dk_at dksX3_loadOf_1 13 rfl rfl)
theorem dX3_loadOf_37 : decode cX3_loadOf 37 = .ok (.istore_n 2, 1) := dk_61 (dk_at dksX3_loadOf_1 14 rfl rfl)
theorem dX3_loadOf_38 : decode cX3_loadOf 38 = .ok (.iinc 3 1, 3) := dk_132 3 1 (dk_at dksX3_loadOf_1 15 rfl rfl)
theorem dX3_loadOf_41 : decode cX3_loadOf 41 = .ok (.goto (-37), 3) := dk_167 255 219 (dk_at dksX3_loadOf_1 18 rfl rfl)
theorem dX3_loadOf_44 : decode cX3_loadOf 44 = .ok (.iload_n 2, 1) := dk_28 (dk_at dksX3_loadOf_1 21 rfl rfl)
theorem dX3_loadOf_45 : decode cX3_loadOf 45 = .ok (.ireturn, 1) := dk_172 (dk_at dksX3_loadOf_1 22 rfl rfl)
abbrev cX3_of : ByteArray := prog_8_method_7_code
def yX3_of : MethodName := ⟨RX3, "of", "(II)I"⟩
def dkwX3_of_0 : List UInt8 := [42, 180, 0, 7, 16, 22, 6, 27, 104, 96, 28, 96, 46, 172]
abbrev dktX3_of_0 : List UInt8 := dkwX3_of_0 ++ []
theorem dksX3_of_0 : cX3_of.data.toList.drop 0 = dktX3_of_0 := by decide +kernel
theorem dX3_of_0 : decode cX3_of 0 = .ok (.aload_n 0, 1) := dk_42 (dk_at dksX3_of_0 0 rfl rfl)
theorem dX3_of_1 : decode cX3_of 1 = .ok (.getfield 7, 3) := dk_180 0 7 (dk_at dksX3_of_0 1 rfl rfl)
theorem dX3_of_4 : decode cX3_of 4 = .ok (.bipush 22, 2) := dk_16 22 (dk_at dksX3_of_0 4 rfl rfl)
theorem dX3_of_6 : decode cX3_of 6 = .ok (.iconst 3, 1) := dk_6 (dk_at dksX3_of_0 6 rfl rfl)
theorem dX3_of_7 : decode cX3_of 7 = .ok (.iload_n 1, 1) := dk_27 (dk_at dksX3_of_0 7 rfl rfl)
theorem dX3_of_8 : decode cX3_of 8 = .ok (.imul, 1) := dk_104 (dk_at dksX3_of_0 8 rfl rfl)
theorem dX3_of_9 : decode cX3_of 9 = .ok (.iadd, 1) := dk_96 (dk_at dksX3_of_0 9 rfl rfl)
theorem dX3_of_10 : decode cX3_of 10 = .ok (.iload_n 2, 1) := dk_28 (dk_at dksX3_of_0 10 rfl rfl)
theorem dX3_of_11 : decode cX3_of 11 = .ok (.iadd, 1) := dk_96 (dk_at dksX3_of_0 11 rfl rfl)
theorem dX3_of_12 : decode cX3_of 12 = .ok (.iaload, 1) := dk_46 (dk_at dksX3_of_0 12 rfl rfl)
theorem dX3_of_13 : decode cX3_of 13 = .ok (.ireturn, 1) := dk_172 (dk_at dksX3_of_0 13 rfl rfl)
abbrev cX3_comes : ByteArray := prog_8_method_14_code
def yX3_comes : MethodName := ⟨RX3, "comes", "(III)V"⟩
def dkwX3_comes_2 : List UInt8 := [16, 9, 92, 46, 4, 96, 79, 177]
abbrev dktX3_comes_2 : List UInt8 := dkwX3_comes_2 ++ []
def dkwX3_comes_1 : List UInt8 := [42, 180, 0, 7, 21, 4, 4, 96, 28, 79, 42, 180, 0, 7, 21, 4, 5, 96, 29, 79, 42, 180, 0, 7]
abbrev dktX3_comes_1 : List UInt8 := dkwX3_comes_1 ++ dktX3_comes_2
def dkwX3_comes_0 : List UInt8 := [16, 22, 6, 42, 180, 0, 7, 16, 9, 46, 104, 96, 54, 4, 42, 180, 0, 7, 21, 4, 3, 96, 27, 79]
abbrev dktX3_comes_0 : List UInt8 := dkwX3_comes_0 ++ dktX3_comes_1
theorem dksX3_comes_0 : cX3_comes.data.toList.drop 0 = dktX3_comes_0 := by decide +kernel
theorem dksX3_comes_1 : cX3_comes.data.toList.drop 24 = dktX3_comes_1 := dk_seg dksX3_comes_0 24 rfl rfl
theorem dksX3_comes_2 : cX3_comes.data.toList.drop 48 = dktX3_comes_2 := dk_seg dksX3_comes_1 24 rfl rfl
theorem dX3_comes_0 : decode cX3_comes 0 = .ok (.bipush 22, 2) := dk_16 22 (dk_at dksX3_comes_0 0 rfl rfl)
theorem dX3_comes_2 : decode cX3_comes 2 = .ok (.iconst 3, 1) := dk_6 (dk_at dksX3_comes_0 2 rfl rfl)
theorem dX3_comes_3 : decode cX3_comes 3 = .ok (.aload_n 0, 1) := dk_42 (dk_at dksX3_comes_0 3 rfl rfl)
theorem dX3_comes_4 : decode cX3_comes 4 = .ok (.getfield 7, 3) := dk_180 0 7 (dk_at dksX3_comes_0 4 rfl rfl)
theorem dX3_comes_7 : decode cX3_comes 7 = .ok (.bipush 9, 2) := dk_16 9 (dk_at dksX3_comes_0 7 rfl rfl)
theorem dX3_comes_9 : decode cX3_comes 9 = .ok (.iaload, 1) := dk_46 (dk_at dksX3_comes_0 9 rfl rfl)
theorem dX3_comes_10 : decode cX3_comes 10 = .ok (.imul, 1) := dk_104 (dk_at dksX3_comes_0 10 rfl rfl)
theorem dX3_comes_11 : decode cX3_comes 11 = .ok (.iadd, 1) := dk_96 (dk_at dksX3_comes_0 11 rfl rfl)
theorem dX3_comes_12 : decode cX3_comes 12 = .ok (.istore 4, 2) := dk_54 4 (dk_at dksX3_comes_0 12 rfl rfl)
theorem dX3_comes_14 : decode cX3_comes 14 = .ok (.aload_n 0, 1) := dk_42 (dk_at dksX3_comes_0 14 rfl rfl)
theorem dX3_comes_15 : decode cX3_comes 15 = .ok (.getfield 7, 3) := dk_180 0 7 (dk_at dksX3_comes_0 15 rfl rfl)
theorem dX3_comes_18 : decode cX3_comes 18 = .ok (.iload 4, 2) := dk_21 4 (dk_at dksX3_comes_0 18 rfl rfl)
theorem dX3_comes_20 : decode cX3_comes 20 = .ok (.iconst 0, 1) := dk_3 (dk_at dksX3_comes_0 20 rfl rfl)
theorem dX3_comes_21 : decode cX3_comes 21 = .ok (.iadd, 1) := dk_96 (dk_at dksX3_comes_0 21 rfl rfl)
theorem dX3_comes_22 : decode cX3_comes 22 = .ok (.iload_n 1, 1) := dk_27 (dk_at dksX3_comes_0 22 rfl rfl)
theorem dX3_comes_23 : decode cX3_comes 23 = .ok (.iastore, 1) := dk_79 (dk_at dksX3_comes_0 23 rfl rfl)
theorem dX3_comes_24 : decode cX3_comes 24 = .ok (.aload_n 0, 1) := dk_42 (dk_at dksX3_comes_1 0 rfl rfl)
theorem dX3_comes_25 : decode cX3_comes 25 = .ok (.getfield 7, 3) := dk_180 0 7 (dk_at dksX3_comes_1 1 rfl rfl)
theorem dX3_comes_28 : decode cX3_comes 28 = .ok (.iload 4, 2) := dk_21 4 (dk_at dksX3_comes_1 4 rfl rfl)
theorem dX3_comes_30 : decode cX3_comes 30 = .ok (.iconst 1, 1) := dk_4 (dk_at dksX3_comes_1 6 rfl rfl)
theorem dX3_comes_31 : decode cX3_comes 31 = .ok (.iadd, 1) := dk_96 (dk_at dksX3_comes_1 7 rfl rfl)
theorem dX3_comes_32 : decode cX3_comes 32 = .ok (.iload_n 2, 1) := dk_28 (dk_at dksX3_comes_1 8 rfl rfl)
theorem dX3_comes_33 : decode cX3_comes 33 = .ok (.iastore, 1) := dk_79 (dk_at dksX3_comes_1 9 rfl rfl)
theorem dX3_comes_34 : decode cX3_comes 34 = .ok (.aload_n 0, 1) := dk_42 (dk_at dksX3_comes_1 10 rfl rfl)
theorem dX3_comes_35 : decode cX3_comes 35 = .ok (.getfield 7, 3) := dk_180 0 7 (dk_at dksX3_comes_1 11 rfl rfl)
theorem dX3_comes_38 : decode cX3_comes 38 = .ok (.iload 4, 2) := dk_21 4 (dk_at dksX3_comes_1 14 rfl rfl)
theorem dX3_comes_40 : decode cX3_comes 40 = .ok (.iconst 2, 1) := dk_5 (dk_at dksX3_comes_1 16 rfl rfl)
theorem dX3_comes_41 : decode cX3_comes 41 = .ok (.iadd, 1) := dk_96 (dk_at dksX3_comes_1 17 rfl rfl)
theorem dX3_comes_42 : decode cX3_comes 42 = .ok (.iload_n 3, 1) := dk_29 (dk_at dksX3_comes_1 18 rfl rfl)
theorem dX3_comes_43 : decode cX3_comes 43 = .ok (.iastore, 1) := dk_79 (dk_at dksX3_comes_1 19 rfl rfl)
theorem dX3_comes_44 : decode cX3_comes 44 = .ok (.aload_n 0, 1) := dk_42 (dk_at dksX3_comes_1 20 rfl rfl)
theorem dX3_comes_45 : decode cX3_comes 45 = .ok (.getfield 7, 3) := dk_180 0 7 (dk_at dksX3_comes_1 21 rfl rfl)
theorem dX3_comes_48 : decode cX3_comes 48 = .ok (.bipush 9, 2) := dk_16 9 (dk_at dksX3_comes_2 0 rfl rfl)
theorem dX3_comes_50 : decode cX3_comes 50 = .ok (.dup2, 1) := dk_92 (dk_at dksX3_comes_2 2 rfl rfl)
theorem dX3_comes_51 : decode cX3_comes 51 = .ok (.iaload, 1) := dk_46 (dk_at dksX3_comes_2 3 rfl rfl)
theorem dX3_comes_52 : decode cX3_comes 52 = .ok (.iconst 1, 1) := dk_4 (dk_at dksX3_comes_2 4 rfl rfl)
theorem dX3_comes_53 : decode cX3_comes 53 = .ok (.iadd, 1) := dk_96 (dk_at dksX3_comes_2 5 rfl rfl)
theorem dX3_comes_54 : decode cX3_comes 54 = .ok (.iastore, 1) := dk_79 (dk_at dksX3_comes_2 6 rfl rfl)
theorem dX3_comes_55 : decode cX3_comes 55 = .ok (.return_, 1) := dk_177 (dk_at dksX3_comes_2 7 rfl rfl)
abbrev cX3_imbalance : ByteArray := prog_8_method_11_code
def yX3_imbalance : MethodName := ⟨RX3, "imbalance", "(I)I"⟩
def dkwX3_imbalance_3 : List UInt8 := [132, 3, 1, 167, 255, 188, 28, 156, 0, 8, 28, 116, 167, 0, 4, 28, 172]
abbrev dktX3_imbalance_3 : List UInt8 := dkwX3_imbalance_3 ++ []
def dkwX3_imbalance_2 : List UInt8 := [16, 6, 162, 0, 12, 42, 29, 4, 182, 0, 49, 167, 0, 10, 42, 29, 4, 182, 0, 49, 116, 96, 61]
abbrev dktX3_imbalance_2 : List UInt8 := dkwX3_imbalance_2 ++ dktX3_imbalance_3
def dkwX3_imbalance_1 : List UInt8 := [184, 0, 53, 54, 4, 28, 21, 4, 153, 0, 10, 21, 4, 16, 6, 160, 0, 7, 3, 167, 0, 26, 21, 4]
abbrev dktX3_imbalance_1 : List UInt8 := dkwX3_imbalance_1 ++ dktX3_imbalance_2
def dkwX3_imbalance_0 : List UInt8 := [3, 61, 3, 62, 29, 42, 180, 0, 7, 16, 9, 46, 162, 0, 63, 42, 29, 5, 182, 0, 49, 27]
abbrev dktX3_imbalance_0 : List UInt8 := dkwX3_imbalance_0 ++ dktX3_imbalance_1
theorem dksX3_imbalance_0 : cX3_imbalance.data.toList.drop 0 = dktX3_imbalance_0 := by decide +kernel
theorem dksX3_imbalance_1 : cX3_imbalance.data.toList.drop 22 = dktX3_imbalance_1 := dk_seg dksX3_imbalance_0 22 rfl rfl
theorem dksX3_imbalance_2 : cX3_imbalance.data.toList.drop 46 = dktX3_imbalance_2 := dk_seg dksX3_imbalance_1 24 rfl rfl
theorem dksX3_imbalance_3 : cX3_imbalance.data.toList.drop 69 = dktX3_imbalance_3 := dk_seg dksX3_imbalance_2 23 rfl rfl
theorem dX3_imbalance_0 : decode cX3_imbalance 0 = .ok (.iconst 0, 1) := dk_3 (dk_at dksX3_imbalance_0 0 rfl rfl)
theorem dX3_imbalance_1 : decode cX3_imbalance 1 = .ok (.istore_n 2, 1) := dk_61 (dk_at dksX3_imbalance_0 1 rfl rfl)
theorem dX3_imbalance_2 : decode cX3_imbalance 2 = .ok (.iconst 0, 1) := dk_3 (dk_at dksX3_imbalance_0 2 rfl rfl)
theorem dX3_imbalance_3 : decode cX3_imbalance 3 = .ok (.istore_n 3, 1) := dk_62 (dk_at dksX3_imbalance_0 3 rfl rfl)
theorem dX3_imbalance_4 : decode cX3_imbalance 4 = .ok (.iload_n 3, 1) := dk_29 (dk_at dksX3_imbalance_0 4 rfl rfl)
theorem dX3_imbalance_5 : decode cX3_imbalance 5 = .ok (.aload_n 0, 1) := dk_42 (dk_at dksX3_imbalance_0 5 rfl rfl)
theorem dX3_imbalance_6 : decode cX3_imbalance 6 = .ok (.getfield 7, 3) := dk_180 0 7 (dk_at dksX3_imbalance_0 6 rfl rfl)
theorem dX3_imbalance_9 : decode cX3_imbalance 9 = .ok (.bipush 9, 2) := dk_16 9 (dk_at dksX3_imbalance_0 9 rfl rfl)
theorem dX3_imbalance_11 : decode cX3_imbalance 11 = .ok (.iaload, 1) := dk_46 (dk_at dksX3_imbalance_0 11 rfl rfl)
theorem dX3_imbalance_12 : decode cX3_imbalance 12 = .ok (.if_icmp .ge 63, 3) := dk_162 0 63 (dk_at dksX3_imbalance_0 12 rfl rfl)
theorem dX3_imbalance_15 : decode cX3_imbalance 15 = .ok (.aload_n 0, 1) := dk_42 (dk_at dksX3_imbalance_0 15 rfl rfl)
theorem dX3_imbalance_16 : decode cX3_imbalance 16 = .ok (.iload_n 3, 1) := dk_29 (dk_at dksX3_imbalance_0 16 rfl rfl)
theorem dX3_imbalance_17 : decode cX3_imbalance 17 = .ok (.iconst 2, 1) := dk_5 (dk_at dksX3_imbalance_0 17 rfl rfl)
theorem dX3_imbalance_18 : decode cX3_imbalance 18 = .ok (.invokevirtual 49, 3) := dk_182 0 49 (dk_at dksX3_imbalance_0 18 rfl rfl)
theorem dX3_imbalance_21 : decode cX3_imbalance 21 = .ok (.iload_n 1, 1) := dk_27 (dk_at dksX3_imbalance_0 21 rfl rfl)
theorem dX3_imbalance_22 : decode cX3_imbalance 22 = .ok (.invokestatic 53, 3) := dk_184 0 53 (dk_at dksX3_imbalance_1 0 rfl rfl)
theorem dX3_imbalance_25 : decode cX3_imbalance 25 = .ok (.istore 4, 2) := dk_54 4 (dk_at dksX3_imbalance_1 3 rfl rfl)
theorem dX3_imbalance_27 : decode cX3_imbalance 27 = .ok (.iload_n 2, 1) := dk_28 (dk_at dksX3_imbalance_1 5 rfl rfl)
theorem dX3_imbalance_28 : decode cX3_imbalance 28 = .ok (.iload 4, 2) := dk_21 4 (dk_at dksX3_imbalance_1 6 rfl rfl)
theorem dX3_imbalance_30 : decode cX3_imbalance 30 = .ok (.ifCond .eq 10, 3) := dk_153 0 10 (dk_at dksX3_imbalance_1 8 rfl rfl)
theorem dX3_imbalance_33 : decode cX3_imbalance 33 = .ok (.iload 4, 2) := dk_21 4 (dk_at dksX3_imbalance_1 11 rfl rfl)
theorem dX3_imbalance_35 : decode cX3_imbalance 35 = .ok (.bipush 6, 2) := dk_16 6 (dk_at dksX3_imbalance_1 13 rfl rfl)
theorem dX3_imbalance_37 : decode cX3_imbalance 37 = .ok (.if_icmp .ne 7, 3) := dk_160 0 7 (dk_at dksX3_imbalance_1 15 rfl rfl)
theorem dX3_imbalance_40 : decode cX3_imbalance 40 = .ok (.iconst 0, 1) := dk_3 (dk_at dksX3_imbalance_1 18 rfl rfl)
theorem dX3_imbalance_41 : decode cX3_imbalance 41 = .ok (.goto 26, 3) := dk_167 0 26 (dk_at dksX3_imbalance_1 19 rfl rfl)
theorem dX3_imbalance_44 : decode cX3_imbalance 44 = .ok (.iload 4, 2) := dk_21 4 (dk_at dksX3_imbalance_1 22 rfl rfl)
theorem dX3_imbalance_46 : decode cX3_imbalance 46 = .ok (.bipush 6, 2) := dk_16 6 (dk_at dksX3_imbalance_2 0 rfl rfl)
theorem dX3_imbalance_48 : decode cX3_imbalance 48 = .ok (.if_icmp .ge 12, 3) := dk_162 0 12 (dk_at dksX3_imbalance_2 2 rfl rfl)
theorem dX3_imbalance_51 : decode cX3_imbalance 51 = .ok (.aload_n 0, 1) := dk_42 (dk_at dksX3_imbalance_2 5 rfl rfl)
theorem dX3_imbalance_52 : decode cX3_imbalance 52 = .ok (.iload_n 3, 1) := dk_29 (dk_at dksX3_imbalance_2 6 rfl rfl)
theorem dX3_imbalance_53 : decode cX3_imbalance 53 = .ok (.iconst 1, 1) := dk_4 (dk_at dksX3_imbalance_2 7 rfl rfl)
theorem dX3_imbalance_54 : decode cX3_imbalance 54 = .ok (.invokevirtual 49, 3) := dk_182 0 49 (dk_at dksX3_imbalance_2 8 rfl rfl)
theorem dX3_imbalance_57 : decode cX3_imbalance 57 = .ok (.goto 10, 3) := dk_167 0 10 (dk_at dksX3_imbalance_2 11 rfl rfl)
theorem dX3_imbalance_60 : decode cX3_imbalance 60 = .ok (.aload_n 0, 1) := dk_42 (dk_at dksX3_imbalance_2 14 rfl rfl)
theorem dX3_imbalance_61 : decode cX3_imbalance 61 = .ok (.iload_n 3, 1) := dk_29 (dk_at dksX3_imbalance_2 15 rfl rfl)
theorem dX3_imbalance_62 : decode cX3_imbalance 62 = .ok (.iconst 1, 1) := dk_4 (dk_at dksX3_imbalance_2 16 rfl rfl)
theorem dX3_imbalance_63 : decode cX3_imbalance 63 = .ok (.invokevirtual 49, 3) := dk_182 0 49 (dk_at dksX3_imbalance_2 17 rfl rfl)
theorem dX3_imbalance_66 : decode cX3_imbalance 66 = .ok (.ineg, 1) := dk_116 (dk_at dksX3_imbalance_2 20 rfl rfl)
theorem dX3_imbalance_67 : decode cX3_imbalance 67 = .ok (.iadd, 1) := dk_96 (dk_at dksX3_imbalance_2 21 rfl rfl)
theorem dX3_imbalance_68 : decode cX3_imbalance 68 = .ok (.istore_n 2, 1) := dk_61 (dk_at dksX3_imbalance_2 22 rfl rfl)
theorem dX3_imbalance_69 : decode cX3_imbalance 69 = .ok (.iinc 3 1, 3) := dk_132 3 1 (dk_at dksX3_imbalance_3 0 rfl rfl)
theorem dX3_imbalance_72 : decode cX3_imbalance 72 = .ok (.goto (-68), 3) := dk_167 255 188 (dk_at dksX3_imbalance_3 3 rfl rfl)
theorem dX3_imbalance_75 : decode cX3_imbalance 75 = .ok (.iload_n 2, 1) := dk_28 (dk_at dksX3_imbalance_3 6 rfl rfl)
theorem dX3_imbalance_76 : decode cX3_imbalance 76 = .ok (.ifCond .ge 8, 3) := dk_156 0 8 (dk_at dksX3_imbalance_3 7 rfl rfl)
theorem dX3_imbalance_79 : decode cX3_imbalance 79 = .ok (.iload_n 2, 1) := dk_28 (dk_at dksX3_imbalance_3 10 rfl rfl)
theorem dX3_imbalance_80 : decode cX3_imbalance 80 = .ok (.ineg, 1) := dk_116 (dk_at dksX3_imbalance_3 11 rfl rfl)
theorem dX3_imbalance_81 : decode cX3_imbalance 81 = .ok (.goto 4, 3) := dk_167 0 4 (dk_at dksX3_imbalance_3 12 rfl rfl)
theorem dX3_imbalance_84 : decode cX3_imbalance 84 = .ok (.iload_n 2, 1) := dk_28 (dk_at dksX3_imbalance_3 15 rfl rfl)
theorem dX3_imbalance_85 : decode cX3_imbalance 85 = .ok (.ireturn, 1) := dk_172 (dk_at dksX3_imbalance_3 16 rfl rfl)
abbrev cX3_placeOf : ByteArray := prog_8_method_10_code
def yX3_placeOf : MethodName := ⟨RX3, "placeOf", "(II)I"⟩
def dkwX3_placeOf_0 : List UInt8 := [26, 27, 100, 16, 12, 96, 16, 12, 112, 172]
abbrev dktX3_placeOf_0 : List UInt8 := dkwX3_placeOf_0 ++ []
theorem dksX3_placeOf_0 : cX3_placeOf.data.toList.drop 0 = dktX3_placeOf_0 := by decide +kernel
theorem dX3_placeOf_0 : decode cX3_placeOf 0 = .ok (.iload_n 0, 1) := dk_26 (dk_at dksX3_placeOf_0 0 rfl rfl)
theorem dX3_placeOf_1 : decode cX3_placeOf 1 = .ok (.iload_n 1, 1) := dk_27 (dk_at dksX3_placeOf_0 1 rfl rfl)
theorem dX3_placeOf_2 : decode cX3_placeOf 2 = .ok (.isub, 1) := dk_100 (dk_at dksX3_placeOf_0 2 rfl rfl)
theorem dX3_placeOf_3 : decode cX3_placeOf 3 = .ok (.bipush 12, 2) := dk_16 12 (dk_at dksX3_placeOf_0 3 rfl rfl)
theorem dX3_placeOf_5 : decode cX3_placeOf 5 = .ok (.iadd, 1) := dk_96 (dk_at dksX3_placeOf_0 5 rfl rfl)
theorem dX3_placeOf_6 : decode cX3_placeOf 6 = .ok (.bipush 12, 2) := dk_16 12 (dk_at dksX3_placeOf_0 6 rfl rfl)
theorem dX3_placeOf_8 : decode cX3_placeOf 8 = .ok (.irem, 1) := dk_112 (dk_at dksX3_placeOf_0 8 rfl rfl)
theorem dX3_placeOf_9 : decode cX3_placeOf 9 = .ok (.ireturn, 1) := dk_172 (dk_at dksX3_placeOf_0 9 rfl rfl)
abbrev cX3_goes : ByteArray := prog_8_method_15_code
def yX3_goes : MethodName := ⟨RX3, "goes", "(I)V"⟩
def dkwX3_goes_3 : List UInt8 := [180, 0, 7, 16, 9, 46, 104, 96, 28, 96, 3, 79, 132, 2, 1, 167, 255, 228, 177]
abbrev dktX3_goes_3 : List UInt8 := dkwX3_goes_3 ++ []
def dkwX3_goes_2 : List UInt8 := [79, 132, 2, 1, 167, 255, 223, 3, 61, 28, 6, 162, 0, 29, 42, 180, 0, 7, 16, 22, 6, 42]
abbrev dktX3_goes_2 : List UInt8 := dkwX3_goes_2 ++ dktX3_goes_3
def dkwX3_goes_1 : List UInt8 := [180, 0, 7, 16, 9, 46, 104, 96, 162, 0, 23, 42, 180, 0, 7, 28, 42, 180, 0, 7, 28, 6, 96, 46]
abbrev dktX3_goes_1 : List UInt8 := dkwX3_goes_1 ++ dktX3_goes_2
def dkwX3_goes_0 : List UInt8 := [42, 180, 0, 7, 16, 9, 92, 46, 4, 100, 79, 16, 22, 6, 27, 104, 96, 61, 28, 16, 22, 6, 42]
abbrev dktX3_goes_0 : List UInt8 := dkwX3_goes_0 ++ dktX3_goes_1
theorem dksX3_goes_0 : cX3_goes.data.toList.drop 0 = dktX3_goes_0 := by decide +kernel
theorem dksX3_goes_1 : cX3_goes.data.toList.drop 23 = dktX3_goes_1 := dk_seg dksX3_goes_0 23 rfl rfl
theorem dksX3_goes_2 : cX3_goes.data.toList.drop 47 = dktX3_goes_2 := dk_seg dksX3_goes_1 24 rfl rfl
theorem dksX3_goes_3 : cX3_goes.data.toList.drop 69 = dktX3_goes_3 := dk_seg dksX3_goes_2 22 rfl rfl
theorem dX3_goes_0 : decode cX3_goes 0 = .ok (.aload_n 0, 1) := dk_42 (dk_at dksX3_goes_0 0 rfl rfl)
theorem dX3_goes_1 : decode cX3_goes 1 = .ok (.getfield 7, 3) := dk_180 0 7 (dk_at dksX3_goes_0 1 rfl rfl)
theorem dX3_goes_4 : decode cX3_goes 4 = .ok (.bipush 9, 2) := dk_16 9 (dk_at dksX3_goes_0 4 rfl rfl)
theorem dX3_goes_6 : decode cX3_goes 6 = .ok (.dup2, 1) := dk_92 (dk_at dksX3_goes_0 6 rfl rfl)
theorem dX3_goes_7 : decode cX3_goes 7 = .ok (.iaload, 1) := dk_46 (dk_at dksX3_goes_0 7 rfl rfl)
theorem dX3_goes_8 : decode cX3_goes 8 = .ok (.iconst 1, 1) := dk_4 (dk_at dksX3_goes_0 8 rfl rfl)
theorem dX3_goes_9 : decode cX3_goes 9 = .ok (.isub, 1) := dk_100 (dk_at dksX3_goes_0 9 rfl rfl)
theorem dX3_goes_10 : decode cX3_goes 10 = .ok (.iastore, 1) := dk_79 (dk_at dksX3_goes_0 10 rfl rfl)
theorem dX3_goes_11 : decode cX3_goes 11 = .ok (.bipush 22, 2) := dk_16 22 (dk_at dksX3_goes_0 11 rfl rfl)
theorem dX3_goes_13 : decode cX3_goes 13 = .ok (.iconst 3, 1) := dk_6 (dk_at dksX3_goes_0 13 rfl rfl)
theorem dX3_goes_14 : decode cX3_goes 14 = .ok (.iload_n 1, 1) := dk_27 (dk_at dksX3_goes_0 14 rfl rfl)
theorem dX3_goes_15 : decode cX3_goes 15 = .ok (.imul, 1) := dk_104 (dk_at dksX3_goes_0 15 rfl rfl)
theorem dX3_goes_16 : decode cX3_goes 16 = .ok (.iadd, 1) := dk_96 (dk_at dksX3_goes_0 16 rfl rfl)
theorem dX3_goes_17 : decode cX3_goes 17 = .ok (.istore_n 2, 1) := dk_61 (dk_at dksX3_goes_0 17 rfl rfl)
theorem dX3_goes_18 : decode cX3_goes 18 = .ok (.iload_n 2, 1) := dk_28 (dk_at dksX3_goes_0 18 rfl rfl)
theorem dX3_goes_19 : decode cX3_goes 19 = .ok (.bipush 22, 2) := dk_16 22 (dk_at dksX3_goes_0 19 rfl rfl)
theorem dX3_goes_21 : decode cX3_goes 21 = .ok (.iconst 3, 1) := dk_6 (dk_at dksX3_goes_0 21 rfl rfl)
theorem dX3_goes_22 : decode cX3_goes 22 = .ok (.aload_n 0, 1) := dk_42 (dk_at dksX3_goes_0 22 rfl rfl)
theorem dX3_goes_23 : decode cX3_goes 23 = .ok (.getfield 7, 3) := dk_180 0 7 (dk_at dksX3_goes_1 0 rfl rfl)
theorem dX3_goes_26 : decode cX3_goes 26 = .ok (.bipush 9, 2) := dk_16 9 (dk_at dksX3_goes_1 3 rfl rfl)
theorem dX3_goes_28 : decode cX3_goes 28 = .ok (.iaload, 1) := dk_46 (dk_at dksX3_goes_1 5 rfl rfl)
theorem dX3_goes_29 : decode cX3_goes 29 = .ok (.imul, 1) := dk_104 (dk_at dksX3_goes_1 6 rfl rfl)
theorem dX3_goes_30 : decode cX3_goes 30 = .ok (.iadd, 1) := dk_96 (dk_at dksX3_goes_1 7 rfl rfl)
theorem dX3_goes_31 : decode cX3_goes 31 = .ok (.if_icmp .ge 23, 3) := dk_162 0 23 (dk_at dksX3_goes_1 8 rfl rfl)
theorem dX3_goes_34 : decode cX3_goes 34 = .ok (.aload_n 0, 1) := dk_42 (dk_at dksX3_goes_1 11 rfl rfl)
theorem dX3_goes_35 : decode cX3_goes 35 = .ok (.getfield 7, 3) := dk_180 0 7 (dk_at dksX3_goes_1 12 rfl rfl)
theorem dX3_goes_38 : decode cX3_goes 38 = .ok (.iload_n 2, 1) := dk_28 (dk_at dksX3_goes_1 15 rfl rfl)
theorem dX3_goes_39 : decode cX3_goes 39 = .ok (.aload_n 0, 1) := dk_42 (dk_at dksX3_goes_1 16 rfl rfl)
theorem dX3_goes_40 : decode cX3_goes 40 = .ok (.getfield 7, 3) := dk_180 0 7 (dk_at dksX3_goes_1 17 rfl rfl)
theorem dX3_goes_43 : decode cX3_goes 43 = .ok (.iload_n 2, 1) := dk_28 (dk_at dksX3_goes_1 20 rfl rfl)
theorem dX3_goes_44 : decode cX3_goes 44 = .ok (.iconst 3, 1) := dk_6 (dk_at dksX3_goes_1 21 rfl rfl)
theorem dX3_goes_45 : decode cX3_goes 45 = .ok (.iadd, 1) := dk_96 (dk_at dksX3_goes_1 22 rfl rfl)
theorem dX3_goes_46 : decode cX3_goes 46 = .ok (.iaload, 1) := dk_46 (dk_at dksX3_goes_1 23 rfl rfl)
theorem dX3_goes_47 : decode cX3_goes 47 = .ok (.iastore, 1) := dk_79 (dk_at dksX3_goes_2 0 rfl rfl)
theorem dX3_goes_48 : decode cX3_goes 48 = .ok (.iinc 2 1, 3) := dk_132 2 1 (dk_at dksX3_goes_2 1 rfl rfl)
theorem dX3_goes_51 : decode cX3_goes 51 = .ok (.goto (-33), 3) := dk_167 255 223 (dk_at dksX3_goes_2 4 rfl rfl)
theorem dX3_goes_54 : decode cX3_goes 54 = .ok (.iconst 0, 1) := dk_3 (dk_at dksX3_goes_2 7 rfl rfl)
theorem dX3_goes_55 : decode cX3_goes 55 = .ok (.istore_n 2, 1) := dk_61 (dk_at dksX3_goes_2 8 rfl rfl)
theorem dX3_goes_56 : decode cX3_goes 56 = .ok (.iload_n 2, 1) := dk_28 (dk_at dksX3_goes_2 9 rfl rfl)
theorem dX3_goes_57 : decode cX3_goes 57 = .ok (.iconst 3, 1) := dk_6 (dk_at dksX3_goes_2 10 rfl rfl)
theorem dX3_goes_58 : decode cX3_goes 58 = .ok (.if_icmp .ge 29, 3) := dk_162 0 29 (dk_at dksX3_goes_2 11 rfl rfl)
theorem dX3_goes_61 : decode cX3_goes 61 = .ok (.aload_n 0, 1) := dk_42 (dk_at dksX3_goes_2 14 rfl rfl)
theorem dX3_goes_62 : decode cX3_goes 62 = .ok (.getfield 7, 3) := dk_180 0 7 (dk_at dksX3_goes_2 15 rfl rfl)
theorem dX3_goes_65 : decode cX3_goes 65 = .ok (.bipush 22, 2) := dk_16 22 (dk_at dksX3_goes_2 18 rfl rfl)
theorem dX3_goes_67 : decode cX3_goes 67 = .ok (.iconst 3, 1) := dk_6 (dk_at dksX3_goes_2 20 rfl rfl)
theorem dX3_goes_68 : decode cX3_goes 68 = .ok (.aload_n 0, 1) := dk_42 (dk_at dksX3_goes_2 21 rfl rfl)
theorem dX3_goes_69 : decode cX3_goes 69 = .ok (.getfield 7, 3) := dk_180 0 7 (dk_at dksX3_goes_3 0 rfl rfl)
theorem dX3_goes_72 : decode cX3_goes 72 = .ok (.bipush 9, 2) := dk_16 9 (dk_at dksX3_goes_3 3 rfl rfl)
theorem dX3_goes_74 : decode cX3_goes 74 = .ok (.iaload, 1) := dk_46 (dk_at dksX3_goes_3 5 rfl rfl)
theorem dX3_goes_75 : decode cX3_goes 75 = .ok (.imul, 1) := dk_104 (dk_at dksX3_goes_3 6 rfl rfl)
theorem dX3_goes_76 : decode cX3_goes 76 = .ok (.iadd, 1) := dk_96 (dk_at dksX3_goes_3 7 rfl rfl)
theorem dX3_goes_77 : decode cX3_goes 77 = .ok (.iload_n 2, 1) := dk_28 (dk_at dksX3_goes_3 8 rfl rfl)
theorem dX3_goes_78 : decode cX3_goes 78 = .ok (.iadd, 1) := dk_96 (dk_at dksX3_goes_3 9 rfl rfl)
theorem dX3_goes_79 : decode cX3_goes 79 = .ok (.iconst 0, 1) := dk_3 (dk_at dksX3_goes_3 10 rfl rfl)
theorem dX3_goes_80 : decode cX3_goes 80 = .ok (.iastore, 1) := dk_79 (dk_at dksX3_goes_3 11 rfl rfl)
theorem dX3_goes_81 : decode cX3_goes 81 = .ok (.iinc 2 1, 3) := dk_132 2 1 (dk_at dksX3_goes_3 12 rfl rfl)
theorem dX3_goes_84 : decode cX3_goes 84 = .ok (.goto (-28), 3) := dk_167 255 228 (dk_at dksX3_goes_3 15 rfl rfl)
theorem dX3_goes_87 : decode cX3_goes 87 = .ok (.return_, 1) := dk_177 (dk_at dksX3_goes_3 18 rfl rfl)
abbrev cX3_saves : ByteArray := prog_8_method_6_code
def yX3_saves : MethodName := ⟨RX3, "saves", "()V"⟩
def dkwX3_saves_4 : List UInt8 := [181, 0, 46, 177]
abbrev dktX3_saves_4 : List UInt8 := dkwX3_saves_4 ++ []
def dkwX3_saves_3 : List UInt8 := [27, 96, 42, 180, 0, 7, 27, 46, 79, 132, 1, 1, 167, 255, 225, 42, 89, 180, 0, 46, 4, 96]
abbrev dktX3_saves_3 : List UInt8 := dkwX3_saves_3 ++ dktX3_saves_4
def dkwX3_saves_2 : List UInt8 := [181, 0, 46, 3, 60, 27, 17, 0, 142, 162, 0, 30, 42, 180, 0, 16, 17, 0, 142, 42, 180, 0, 46, 104]
abbrev dktX3_saves_2 : List UInt8 := dkwX3_saves_2 ++ dktX3_saves_3
def dkwX3_saves_1 : List UInt8 := [180, 0, 16, 27, 17, 0, 142, 96, 46, 79, 132, 1, 1, 167, 255, 230, 42, 89, 180, 0, 46, 4, 100]
abbrev dktX3_saves_1 : List UInt8 := dkwX3_saves_1 ++ dktX3_saves_2
def dkwX3_saves_0 : List UInt8 := [42, 180, 0, 46, 16, 6, 160, 0, 44, 3, 60, 27, 17, 2, 198, 162, 0, 25, 42, 180, 0, 16, 27, 42]
abbrev dktX3_saves_0 : List UInt8 := dkwX3_saves_0 ++ dktX3_saves_1
theorem dksX3_saves_0 : cX3_saves.data.toList.drop 0 = dktX3_saves_0 := by decide +kernel
theorem dksX3_saves_1 : cX3_saves.data.toList.drop 24 = dktX3_saves_1 := dk_seg dksX3_saves_0 24 rfl rfl
theorem dksX3_saves_2 : cX3_saves.data.toList.drop 47 = dktX3_saves_2 := dk_seg dksX3_saves_1 23 rfl rfl
theorem dksX3_saves_3 : cX3_saves.data.toList.drop 71 = dktX3_saves_3 := dk_seg dksX3_saves_2 24 rfl rfl
theorem dksX3_saves_4 : cX3_saves.data.toList.drop 93 = dktX3_saves_4 := dk_seg dksX3_saves_3 22 rfl rfl
theorem dX3_saves_0 : decode cX3_saves 0 = .ok (.aload_n 0, 1) := dk_42 (dk_at dksX3_saves_0 0 rfl rfl)
theorem dX3_saves_1 : decode cX3_saves 1 = .ok (.getfield 46, 3) := dk_180 0 46 (dk_at dksX3_saves_0 1 rfl rfl)
theorem dX3_saves_4 : decode cX3_saves 4 = .ok (.bipush 6, 2) := dk_16 6 (dk_at dksX3_saves_0 4 rfl rfl)
theorem dX3_saves_6 : decode cX3_saves 6 = .ok (.if_icmp .ne 44, 3) := dk_160 0 44 (dk_at dksX3_saves_0 6 rfl rfl)
theorem dX3_saves_9 : decode cX3_saves 9 = .ok (.iconst 0, 1) := dk_3 (dk_at dksX3_saves_0 9 rfl rfl)
theorem dX3_saves_10 : decode cX3_saves 10 = .ok (.istore_n 1, 1) := dk_60 (dk_at dksX3_saves_0 10 rfl rfl)
theorem dX3_saves_11 : decode cX3_saves 11 = .ok (.iload_n 1, 1) := dk_27 (dk_at dksX3_saves_0 11 rfl rfl)
theorem dX3_saves_12 : decode cX3_saves 12 = .ok (.sipush 710, 3) := dk_17 2 198 (dk_at dksX3_saves_0 12 rfl rfl)
theorem dX3_saves_15 : decode cX3_saves 15 = .ok (.if_icmp .ge 25, 3) := dk_162 0 25 (dk_at dksX3_saves_0 15 rfl rfl)
theorem dX3_saves_18 : decode cX3_saves 18 = .ok (.aload_n 0, 1) := dk_42 (dk_at dksX3_saves_0 18 rfl rfl)
theorem dX3_saves_19 : decode cX3_saves 19 = .ok (.getfield 16, 3) := dk_180 0 16 (dk_at dksX3_saves_0 19 rfl rfl)
theorem dX3_saves_22 : decode cX3_saves 22 = .ok (.iload_n 1, 1) := dk_27 (dk_at dksX3_saves_0 22 rfl rfl)
theorem dX3_saves_23 : decode cX3_saves 23 = .ok (.aload_n 0, 1) := dk_42 (dk_at dksX3_saves_0 23 rfl rfl)
theorem dX3_saves_24 : decode cX3_saves 24 = .ok (.getfield 16, 3) := dk_180 0 16 (dk_at dksX3_saves_1 0 rfl rfl)
theorem dX3_saves_27 : decode cX3_saves 27 = .ok (.iload_n 1, 1) := dk_27 (dk_at dksX3_saves_1 3 rfl rfl)
theorem dX3_saves_28 : decode cX3_saves 28 = .ok (.sipush 142, 3) := dk_17 0 142 (dk_at dksX3_saves_1 4 rfl rfl)
theorem dX3_saves_31 : decode cX3_saves 31 = .ok (.iadd, 1) := dk_96 (dk_at dksX3_saves_1 7 rfl rfl)
theorem dX3_saves_32 : decode cX3_saves 32 = .ok (.iaload, 1) := dk_46 (dk_at dksX3_saves_1 8 rfl rfl)
theorem dX3_saves_33 : decode cX3_saves 33 = .ok (.iastore, 1) := dk_79 (dk_at dksX3_saves_1 9 rfl rfl)
theorem dX3_saves_34 : decode cX3_saves 34 = .ok (.iinc 1 1, 3) := dk_132 1 1 (dk_at dksX3_saves_1 10 rfl rfl)
theorem dX3_saves_37 : decode cX3_saves 37 = .ok (.goto (-26), 3) := dk_167 255 230 (dk_at dksX3_saves_1 13 rfl rfl)
theorem dX3_saves_40 : decode cX3_saves 40 = .ok (.aload_n 0, 1) := dk_42 (dk_at dksX3_saves_1 16 rfl rfl)
theorem dX3_saves_41 : decode cX3_saves 41 = .ok (.dup, 1) := dk_89 (dk_at dksX3_saves_1 17 rfl rfl)
theorem dX3_saves_42 : decode cX3_saves 42 = .ok (.getfield 46, 3) := dk_180 0 46 (dk_at dksX3_saves_1 18 rfl rfl)
theorem dX3_saves_45 : decode cX3_saves 45 = .ok (.iconst 1, 1) := dk_4 (dk_at dksX3_saves_1 21 rfl rfl)
theorem dX3_saves_46 : decode cX3_saves 46 = .ok (.isub, 1) := dk_100 (dk_at dksX3_saves_1 22 rfl rfl)
theorem dX3_saves_47 : decode cX3_saves 47 = .ok (.putfield 46, 3) := dk_181 0 46 (dk_at dksX3_saves_2 0 rfl rfl)
theorem dX3_saves_50 : decode cX3_saves 50 = .ok (.iconst 0, 1) := dk_3 (dk_at dksX3_saves_2 3 rfl rfl)
theorem dX3_saves_51 : decode cX3_saves 51 = .ok (.istore_n 1, 1) := dk_60 (dk_at dksX3_saves_2 4 rfl rfl)
theorem dX3_saves_52 : decode cX3_saves 52 = .ok (.iload_n 1, 1) := dk_27 (dk_at dksX3_saves_2 5 rfl rfl)
theorem dX3_saves_53 : decode cX3_saves 53 = .ok (.sipush 142, 3) := dk_17 0 142 (dk_at dksX3_saves_2 6 rfl rfl)
theorem dX3_saves_56 : decode cX3_saves 56 = .ok (.if_icmp .ge 30, 3) := dk_162 0 30 (dk_at dksX3_saves_2 9 rfl rfl)
theorem dX3_saves_59 : decode cX3_saves 59 = .ok (.aload_n 0, 1) := dk_42 (dk_at dksX3_saves_2 12 rfl rfl)
theorem dX3_saves_60 : decode cX3_saves 60 = .ok (.getfield 16, 3) := dk_180 0 16 (dk_at dksX3_saves_2 13 rfl rfl)
theorem dX3_saves_63 : decode cX3_saves 63 = .ok (.sipush 142, 3) := dk_17 0 142 (dk_at dksX3_saves_2 16 rfl rfl)
theorem dX3_saves_66 : decode cX3_saves 66 = .ok (.aload_n 0, 1) := dk_42 (dk_at dksX3_saves_2 19 rfl rfl)
theorem dX3_saves_67 : decode cX3_saves 67 = .ok (.getfield 46, 3) := dk_180 0 46 (dk_at dksX3_saves_2 20 rfl rfl)
theorem dX3_saves_70 : decode cX3_saves 70 = .ok (.imul, 1) := dk_104 (dk_at dksX3_saves_2 23 rfl rfl)
theorem dX3_saves_71 : decode cX3_saves 71 = .ok (.iload_n 1, 1) := dk_27 (dk_at dksX3_saves_3 0 rfl rfl)
theorem dX3_saves_72 : decode cX3_saves 72 = .ok (.iadd, 1) := dk_96 (dk_at dksX3_saves_3 1 rfl rfl)
theorem dX3_saves_73 : decode cX3_saves 73 = .ok (.aload_n 0, 1) := dk_42 (dk_at dksX3_saves_3 2 rfl rfl)
theorem dX3_saves_74 : decode cX3_saves 74 = .ok (.getfield 7, 3) := dk_180 0 7 (dk_at dksX3_saves_3 3 rfl rfl)
theorem dX3_saves_77 : decode cX3_saves 77 = .ok (.iload_n 1, 1) := dk_27 (dk_at dksX3_saves_3 6 rfl rfl)
theorem dX3_saves_78 : decode cX3_saves 78 = .ok (.iaload, 1) := dk_46 (dk_at dksX3_saves_3 7 rfl rfl)
theorem dX3_saves_79 : decode cX3_saves 79 = .ok (.iastore, 1) := dk_79 (dk_at dksX3_saves_3 8 rfl rfl)
theorem dX3_saves_80 : decode cX3_saves 80 = .ok (.iinc 1 1, 3) := dk_132 1 1 (dk_at dksX3_saves_3 9 rfl rfl)
theorem dX3_saves_83 : decode cX3_saves 83 = .ok (.goto (-31), 3) := dk_167 255 225 (dk_at dksX3_saves_3 12 rfl rfl)
theorem dX3_saves_86 : decode cX3_saves 86 = .ok (.aload_n 0, 1) := dk_42 (dk_at dksX3_saves_3 15 rfl rfl)
theorem dX3_saves_87 : decode cX3_saves 87 = .ok (.dup, 1) := dk_89 (dk_at dksX3_saves_3 16 rfl rfl)
theorem dX3_saves_88 : decode cX3_saves 88 = .ok (.getfield 46, 3) := dk_180 0 46 (dk_at dksX3_saves_3 17 rfl rfl)
theorem dX3_saves_91 : decode cX3_saves 91 = .ok (.iconst 1, 1) := dk_4 (dk_at dksX3_saves_3 20 rfl rfl)
theorem dX3_saves_92 : decode cX3_saves 92 = .ok (.iadd, 1) := dk_96 (dk_at dksX3_saves_3 21 rfl rfl)
theorem dX3_saves_93 : decode cX3_saves 93 = .ok (.putfield 46, 3) := dk_181 0 46 (dk_at dksX3_saves_4 0 rfl rfl)
theorem dX3_saves_96 : decode cX3_saves 96 = .ok (.return_, 1) := dk_177 (dk_at dksX3_saves_4 3 rfl rfl)
abbrev cX3_move : ByteArray := prog_8_method_32_code
def yX3_move : MethodName := ⟨RX3, "move", "(II)I"⟩
def dkwX3_move_6 : List UInt8 := [182, 0, 131, 42, 180, 0, 7, 16, 22, 6, 29, 104, 96, 5, 96, 28, 79, 21, 4, 172]
abbrev dktX3_move_6 : List UInt8 := dkwX3_move_6 ++ []
def dkwX3_move_5 : List UInt8 := [16, 22, 6, 29, 104, 96, 5, 96, 21, 4, 79, 21, 5, 154, 0, 9, 42, 5, 182, 0, 121, 172, 42]
abbrev dktX3_move_5 : List UInt8 := dkwX3_move_5 ++ dktX3_move_6
def dkwX3_move_4 : List UInt8 := [46, 182, 0, 56, 42, 180, 0, 7, 3, 46, 163, 0, 7, 4, 167, 0, 4, 3, 54, 5, 42, 180, 0, 7]
abbrev dktX3_move_4 : List UInt8 := dkwX3_move_4 ++ dktX3_move_5
def dkwX3_move_3 : List UInt8 := [46, 154, 0, 40, 42, 28, 182, 0, 124, 42, 180, 0, 7, 4, 46, 163, 0, 26, 42, 42, 180, 0, 7, 6]
abbrev dktX3_move_3 : List UInt8 := dkwX3_move_3 ++ dktX3_move_4
def dkwX3_move_2 : List UInt8 := [96, 28, 79, 42, 180, 0, 7, 16, 10, 21, 4, 96, 46, 154, 0, 52, 42, 180, 0, 7, 16, 10, 28, 96]
abbrev dktX3_move_2 : List UInt8 := dkwX3_move_2 ++ dktX3_move_3
def dkwX3_move_1 : List UInt8 := [4, 182, 0, 121, 172, 42, 29, 5, 182, 0, 49, 54, 4, 42, 180, 0, 7, 16, 22, 6, 29, 104, 96, 5]
abbrev dktX3_move_1 : List UInt8 := dkwX3_move_1 ++ dktX3_move_2
def dkwX3_move_0 : List UInt8 := [42, 3, 181, 0, 38, 42, 27, 182, 0, 70, 62, 29, 2, 159, 0, 10, 28, 184, 0, 117, 154, 0, 9, 42]
abbrev dktX3_move_0 : List UInt8 := dkwX3_move_0 ++ dktX3_move_1
theorem dksX3_move_0 : cX3_move.data.toList.drop 0 = dktX3_move_0 := by decide +kernel
theorem dksX3_move_1 : cX3_move.data.toList.drop 24 = dktX3_move_1 := dk_seg dksX3_move_0 24 rfl rfl
theorem dksX3_move_2 : cX3_move.data.toList.drop 48 = dktX3_move_2 := dk_seg dksX3_move_1 24 rfl rfl
theorem dksX3_move_3 : cX3_move.data.toList.drop 72 = dktX3_move_3 := dk_seg dksX3_move_2 24 rfl rfl
theorem dksX3_move_4 : cX3_move.data.toList.drop 96 = dktX3_move_4 := dk_seg dksX3_move_3 24 rfl rfl
theorem dksX3_move_5 : cX3_move.data.toList.drop 120 = dktX3_move_5 := dk_seg dksX3_move_4 24 rfl rfl
theorem dksX3_move_6 : cX3_move.data.toList.drop 143 = dktX3_move_6 := dk_seg dksX3_move_5 23 rfl rfl
theorem dX3_move_0 : decode cX3_move 0 = .ok (.aload_n 0, 1) := dk_42 (dk_at dksX3_move_0 0 rfl rfl)
theorem dX3_move_1 : decode cX3_move 1 = .ok (.iconst 0, 1) := dk_3 (dk_at dksX3_move_0 1 rfl rfl)
theorem dX3_move_2 : decode cX3_move 2 = .ok (.putfield 38, 3) := dk_181 0 38 (dk_at dksX3_move_0 2 rfl rfl)
theorem dX3_move_5 : decode cX3_move 5 = .ok (.aload_n 0, 1) := dk_42 (dk_at dksX3_move_0 5 rfl rfl)
theorem dX3_move_6 : decode cX3_move 6 = .ok (.iload_n 1, 1) := dk_27 (dk_at dksX3_move_0 6 rfl rfl)
theorem dX3_move_7 : decode cX3_move 7 = .ok (.invokevirtual 70, 3) := dk_182 0 70 (dk_at dksX3_move_0 7 rfl rfl)
theorem dX3_move_10 : decode cX3_move 10 = .ok (.istore_n 3, 1) := dk_62 (dk_at dksX3_move_0 10 rfl rfl)
theorem dX3_move_11 : decode cX3_move 11 = .ok (.iload_n 3, 1) := dk_29 (dk_at dksX3_move_0 11 rfl rfl)
theorem dX3_move_12 : decode cX3_move 12 = .ok (.iconst (-1), 1) := dk_2 (dk_at dksX3_move_0 12 rfl rfl)
theorem dX3_move_13 : decode cX3_move 13 = .ok (.if_icmp .eq 10, 3) := dk_159 0 10 (dk_at dksX3_move_0 13 rfl rfl)
theorem dX3_move_16 : decode cX3_move 16 = .ok (.iload_n 2, 1) := dk_28 (dk_at dksX3_move_0 16 rfl rfl)
theorem dX3_move_17 : decode cX3_move 17 = .ok (.invokestatic 117, 3) := dk_184 0 117 (dk_at dksX3_move_0 17 rfl rfl)
theorem dX3_move_20 : decode cX3_move 20 = .ok (.ifCond .ne 9, 3) := dk_154 0 9 (dk_at dksX3_move_0 20 rfl rfl)
theorem dX3_move_23 : decode cX3_move 23 = .ok (.aload_n 0, 1) := dk_42 (dk_at dksX3_move_0 23 rfl rfl)
theorem dX3_move_24 : decode cX3_move 24 = .ok (.iconst 1, 1) := dk_4 (dk_at dksX3_move_1 0 rfl rfl)
theorem dX3_move_25 : decode cX3_move 25 = .ok (.invokevirtual 121, 3) := dk_182 0 121 (dk_at dksX3_move_1 1 rfl rfl)
theorem dX3_move_28 : decode cX3_move 28 = .ok (.ireturn, 1) := dk_172 (dk_at dksX3_move_1 4 rfl rfl)
theorem dX3_move_29 : decode cX3_move 29 = .ok (.aload_n 0, 1) := dk_42 (dk_at dksX3_move_1 5 rfl rfl)
theorem dX3_move_30 : decode cX3_move 30 = .ok (.iload_n 3, 1) := dk_29 (dk_at dksX3_move_1 6 rfl rfl)
theorem dX3_move_31 : decode cX3_move 31 = .ok (.iconst 2, 1) := dk_5 (dk_at dksX3_move_1 7 rfl rfl)
theorem dX3_move_32 : decode cX3_move 32 = .ok (.invokevirtual 49, 3) := dk_182 0 49 (dk_at dksX3_move_1 8 rfl rfl)
theorem dX3_move_35 : decode cX3_move 35 = .ok (.istore 4, 2) := dk_54 4 (dk_at dksX3_move_1 11 rfl rfl)
theorem dX3_move_37 : decode cX3_move 37 = .ok (.aload_n 0, 1) := dk_42 (dk_at dksX3_move_1 13 rfl rfl)
theorem dX3_move_38 : decode cX3_move 38 = .ok (.getfield 7, 3) := dk_180 0 7 (dk_at dksX3_move_1 14 rfl rfl)
theorem dX3_move_41 : decode cX3_move 41 = .ok (.bipush 22, 2) := dk_16 22 (dk_at dksX3_move_1 17 rfl rfl)
theorem dX3_move_43 : decode cX3_move 43 = .ok (.iconst 3, 1) := dk_6 (dk_at dksX3_move_1 19 rfl rfl)
theorem dX3_move_44 : decode cX3_move 44 = .ok (.iload_n 3, 1) := dk_29 (dk_at dksX3_move_1 20 rfl rfl)
theorem dX3_move_45 : decode cX3_move 45 = .ok (.imul, 1) := dk_104 (dk_at dksX3_move_1 21 rfl rfl)
theorem dX3_move_46 : decode cX3_move 46 = .ok (.iadd, 1) := dk_96 (dk_at dksX3_move_1 22 rfl rfl)
theorem dX3_move_47 : decode cX3_move 47 = .ok (.iconst 2, 1) := dk_5 (dk_at dksX3_move_1 23 rfl rfl)
theorem dX3_move_48 : decode cX3_move 48 = .ok (.iadd, 1) := dk_96 (dk_at dksX3_move_2 0 rfl rfl)
theorem dX3_move_49 : decode cX3_move 49 = .ok (.iload_n 2, 1) := dk_28 (dk_at dksX3_move_2 1 rfl rfl)
theorem dX3_move_50 : decode cX3_move 50 = .ok (.iastore, 1) := dk_79 (dk_at dksX3_move_2 2 rfl rfl)
theorem dX3_move_51 : decode cX3_move 51 = .ok (.aload_n 0, 1) := dk_42 (dk_at dksX3_move_2 3 rfl rfl)
theorem dX3_move_52 : decode cX3_move 52 = .ok (.getfield 7, 3) := dk_180 0 7 (dk_at dksX3_move_2 4 rfl rfl)
theorem dX3_move_55 : decode cX3_move 55 = .ok (.bipush 10, 2) := dk_16 10 (dk_at dksX3_move_2 7 rfl rfl)
theorem dX3_move_57 : decode cX3_move 57 = .ok (.iload 4, 2) := dk_21 4 (dk_at dksX3_move_2 9 rfl rfl)
theorem dX3_move_59 : decode cX3_move 59 = .ok (.iadd, 1) := dk_96 (dk_at dksX3_move_2 11 rfl rfl)
theorem dX3_move_60 : decode cX3_move 60 = .ok (.iaload, 1) := dk_46 (dk_at dksX3_move_2 12 rfl rfl)
theorem dX3_move_61 : decode cX3_move 61 = .ok (.ifCond .ne 52, 3) := dk_154 0 52 (dk_at dksX3_move_2 13 rfl rfl)
theorem dX3_move_64 : decode cX3_move 64 = .ok (.aload_n 0, 1) := dk_42 (dk_at dksX3_move_2 16 rfl rfl)
theorem dX3_move_65 : decode cX3_move 65 = .ok (.getfield 7, 3) := dk_180 0 7 (dk_at dksX3_move_2 17 rfl rfl)
theorem dX3_move_68 : decode cX3_move 68 = .ok (.bipush 10, 2) := dk_16 10 (dk_at dksX3_move_2 20 rfl rfl)
theorem dX3_move_70 : decode cX3_move 70 = .ok (.iload_n 2, 1) := dk_28 (dk_at dksX3_move_2 22 rfl rfl)
theorem dX3_move_71 : decode cX3_move 71 = .ok (.iadd, 1) := dk_96 (dk_at dksX3_move_2 23 rfl rfl)
theorem dX3_move_72 : decode cX3_move 72 = .ok (.iaload, 1) := dk_46 (dk_at dksX3_move_3 0 rfl rfl)
theorem dX3_move_73 : decode cX3_move 73 = .ok (.ifCond .ne 40, 3) := dk_154 0 40 (dk_at dksX3_move_3 1 rfl rfl)
theorem dX3_move_76 : decode cX3_move 76 = .ok (.aload_n 0, 1) := dk_42 (dk_at dksX3_move_3 4 rfl rfl)
theorem dX3_move_77 : decode cX3_move 77 = .ok (.iload_n 2, 1) := dk_28 (dk_at dksX3_move_3 5 rfl rfl)
theorem dX3_move_78 : decode cX3_move 78 = .ok (.invokevirtual 124, 3) := dk_182 0 124 (dk_at dksX3_move_3 6 rfl rfl)
theorem dX3_move_81 : decode cX3_move 81 = .ok (.aload_n 0, 1) := dk_42 (dk_at dksX3_move_3 9 rfl rfl)
theorem dX3_move_82 : decode cX3_move 82 = .ok (.getfield 7, 3) := dk_180 0 7 (dk_at dksX3_move_3 10 rfl rfl)
theorem dX3_move_85 : decode cX3_move 85 = .ok (.iconst 1, 1) := dk_4 (dk_at dksX3_move_3 13 rfl rfl)
theorem dX3_move_86 : decode cX3_move 86 = .ok (.iaload, 1) := dk_46 (dk_at dksX3_move_3 14 rfl rfl)
theorem dX3_move_87 : decode cX3_move 87 = .ok (.if_icmp .gt 26, 3) := dk_163 0 26 (dk_at dksX3_move_3 15 rfl rfl)
theorem dX3_move_90 : decode cX3_move 90 = .ok (.aload_n 0, 1) := dk_42 (dk_at dksX3_move_3 18 rfl rfl)
theorem dX3_move_91 : decode cX3_move 91 = .ok (.aload_n 0, 1) := dk_42 (dk_at dksX3_move_3 19 rfl rfl)
theorem dX3_move_92 : decode cX3_move 92 = .ok (.getfield 7, 3) := dk_180 0 7 (dk_at dksX3_move_3 20 rfl rfl)
theorem dX3_move_95 : decode cX3_move 95 = .ok (.iconst 3, 1) := dk_6 (dk_at dksX3_move_3 23 rfl rfl)
theorem dX3_move_96 : decode cX3_move 96 = .ok (.iaload, 1) := dk_46 (dk_at dksX3_move_4 0 rfl rfl)
theorem dX3_move_97 : decode cX3_move 97 = .ok (.invokevirtual 56, 3) := dk_182 0 56 (dk_at dksX3_move_4 1 rfl rfl)
theorem dX3_move_100 : decode cX3_move 100 = .ok (.aload_n 0, 1) := dk_42 (dk_at dksX3_move_4 4 rfl rfl)
theorem dX3_move_101 : decode cX3_move 101 = .ok (.getfield 7, 3) := dk_180 0 7 (dk_at dksX3_move_4 5 rfl rfl)
theorem dX3_move_104 : decode cX3_move 104 = .ok (.iconst 0, 1) := dk_3 (dk_at dksX3_move_4 8 rfl rfl)
theorem dX3_move_105 : decode cX3_move 105 = .ok (.iaload, 1) := dk_46 (dk_at dksX3_move_4 9 rfl rfl)
theorem dX3_move_106 : decode cX3_move 106 = .ok (.if_icmp .gt 7, 3) := dk_163 0 7 (dk_at dksX3_move_4 10 rfl rfl)
theorem dX3_move_109 : decode cX3_move 109 = .ok (.iconst 1, 1) := dk_4 (dk_at dksX3_move_4 13 rfl rfl)
theorem dX3_move_110 : decode cX3_move 110 = .ok (.goto 4, 3) := dk_167 0 4 (dk_at dksX3_move_4 14 rfl rfl)
theorem dX3_move_113 : decode cX3_move 113 = .ok (.iconst 0, 1) := dk_3 (dk_at dksX3_move_4 17 rfl rfl)
theorem dX3_move_114 : decode cX3_move 114 = .ok (.istore 5, 2) := dk_54 5 (dk_at dksX3_move_4 18 rfl rfl)
theorem dX3_move_116 : decode cX3_move 116 = .ok (.aload_n 0, 1) := dk_42 (dk_at dksX3_move_4 20 rfl rfl)
theorem dX3_move_117 : decode cX3_move 117 = .ok (.getfield 7, 3) := dk_180 0 7 (dk_at dksX3_move_4 21 rfl rfl)
theorem dX3_move_120 : decode cX3_move 120 = .ok (.bipush 22, 2) := dk_16 22 (dk_at dksX3_move_5 0 rfl rfl)
theorem dX3_move_122 : decode cX3_move 122 = .ok (.iconst 3, 1) := dk_6 (dk_at dksX3_move_5 2 rfl rfl)
theorem dX3_move_123 : decode cX3_move 123 = .ok (.iload_n 3, 1) := dk_29 (dk_at dksX3_move_5 3 rfl rfl)
theorem dX3_move_124 : decode cX3_move 124 = .ok (.imul, 1) := dk_104 (dk_at dksX3_move_5 4 rfl rfl)
theorem dX3_move_125 : decode cX3_move 125 = .ok (.iadd, 1) := dk_96 (dk_at dksX3_move_5 5 rfl rfl)
theorem dX3_move_126 : decode cX3_move 126 = .ok (.iconst 2, 1) := dk_5 (dk_at dksX3_move_5 6 rfl rfl)
theorem dX3_move_127 : decode cX3_move 127 = .ok (.iadd, 1) := dk_96 (dk_at dksX3_move_5 7 rfl rfl)
theorem dX3_move_128 : decode cX3_move 128 = .ok (.iload 4, 2) := dk_21 4 (dk_at dksX3_move_5 8 rfl rfl)
theorem dX3_move_130 : decode cX3_move 130 = .ok (.iastore, 1) := dk_79 (dk_at dksX3_move_5 10 rfl rfl)
theorem dX3_move_131 : decode cX3_move 131 = .ok (.iload 5, 2) := dk_21 5 (dk_at dksX3_move_5 11 rfl rfl)
theorem dX3_move_133 : decode cX3_move 133 = .ok (.ifCond .ne 9, 3) := dk_154 0 9 (dk_at dksX3_move_5 13 rfl rfl)
theorem dX3_move_136 : decode cX3_move 136 = .ok (.aload_n 0, 1) := dk_42 (dk_at dksX3_move_5 16 rfl rfl)
theorem dX3_move_137 : decode cX3_move 137 = .ok (.iconst 2, 1) := dk_5 (dk_at dksX3_move_5 17 rfl rfl)
theorem dX3_move_138 : decode cX3_move 138 = .ok (.invokevirtual 121, 3) := dk_182 0 121 (dk_at dksX3_move_5 18 rfl rfl)
theorem dX3_move_141 : decode cX3_move 141 = .ok (.ireturn, 1) := dk_172 (dk_at dksX3_move_5 21 rfl rfl)
theorem dX3_move_142 : decode cX3_move 142 = .ok (.aload_n 0, 1) := dk_42 (dk_at dksX3_move_5 22 rfl rfl)
theorem dX3_move_143 : decode cX3_move 143 = .ok (.invokevirtual 131, 3) := dk_182 0 131 (dk_at dksX3_move_6 0 rfl rfl)
theorem dX3_move_146 : decode cX3_move 146 = .ok (.aload_n 0, 1) := dk_42 (dk_at dksX3_move_6 3 rfl rfl)
theorem dX3_move_147 : decode cX3_move 147 = .ok (.getfield 7, 3) := dk_180 0 7 (dk_at dksX3_move_6 4 rfl rfl)
theorem dX3_move_150 : decode cX3_move 150 = .ok (.bipush 22, 2) := dk_16 22 (dk_at dksX3_move_6 7 rfl rfl)
theorem dX3_move_152 : decode cX3_move 152 = .ok (.iconst 3, 1) := dk_6 (dk_at dksX3_move_6 9 rfl rfl)
theorem dX3_move_153 : decode cX3_move 153 = .ok (.iload_n 3, 1) := dk_29 (dk_at dksX3_move_6 10 rfl rfl)
theorem dX3_move_154 : decode cX3_move 154 = .ok (.imul, 1) := dk_104 (dk_at dksX3_move_6 11 rfl rfl)
theorem dX3_move_155 : decode cX3_move 155 = .ok (.iadd, 1) := dk_96 (dk_at dksX3_move_6 12 rfl rfl)
theorem dX3_move_156 : decode cX3_move 156 = .ok (.iconst 2, 1) := dk_5 (dk_at dksX3_move_6 13 rfl rfl)
theorem dX3_move_157 : decode cX3_move 157 = .ok (.iadd, 1) := dk_96 (dk_at dksX3_move_6 14 rfl rfl)
theorem dX3_move_158 : decode cX3_move 158 = .ok (.iload_n 2, 1) := dk_28 (dk_at dksX3_move_6 15 rfl rfl)
theorem dX3_move_159 : decode cX3_move 159 = .ok (.iastore, 1) := dk_79 (dk_at dksX3_move_6 16 rfl rfl)
theorem dX3_move_160 : decode cX3_move 160 = .ok (.iload 4, 2) := dk_21 4 (dk_at dksX3_move_6 17 rfl rfl)
theorem dX3_move_162 : decode cX3_move 162 = .ok (.ireturn, 1) := dk_172 (dk_at dksX3_move_6 19 rfl rfl)
abbrev cX3_placeOfItem : ByteArray := prog_8_method_13_code
def yX3_placeOfItem : MethodName := ⟨RX3, "placeOfItem", "(I)I"⟩
def dkwX3_placeOfItem_1 : List UInt8 := [172, 132, 2, 1, 167, 255, 230, 2, 172]
abbrev dktX3_placeOfItem_1 : List UInt8 := dkwX3_placeOfItem_1 ++ []
def dkwX3_placeOfItem_0 : List UInt8 := [3, 61, 28, 42, 180, 0, 7, 16, 9, 46, 162, 0, 21, 42, 28, 3, 182, 0, 49, 27, 160, 0, 5, 28]
abbrev dktX3_placeOfItem_0 : List UInt8 := dkwX3_placeOfItem_0 ++ dktX3_placeOfItem_1
theorem dksX3_placeOfItem_0 : cX3_placeOfItem.data.toList.drop 0 = dktX3_placeOfItem_0 := by decide +kernel
theorem dksX3_placeOfItem_1 : cX3_placeOfItem.data.toList.drop 24 = dktX3_placeOfItem_1 := dk_seg dksX3_placeOfItem_0 24 rfl rfl
theorem dX3_placeOfItem_0 : decode cX3_placeOfItem 0 = .ok (.iconst 0, 1) := dk_3 (dk_at dksX3_placeOfItem_0 0 rfl rfl)
theorem dX3_placeOfItem_1 : decode cX3_placeOfItem 1 = .ok (.istore_n 2, 1) := dk_61 (dk_at dksX3_placeOfItem_0 1 rfl rfl)
theorem dX3_placeOfItem_2 : decode cX3_placeOfItem 2 = .ok (.iload_n 2, 1) := dk_28 (dk_at dksX3_placeOfItem_0 2 rfl rfl)
theorem dX3_placeOfItem_3 : decode cX3_placeOfItem 3 = .ok (.aload_n 0, 1) := dk_42 (dk_at dksX3_placeOfItem_0 3 rfl rfl)
theorem dX3_placeOfItem_4 : decode cX3_placeOfItem 4 = .ok (.getfield 7, 3) := dk_180 0 7 (dk_at dksX3_placeOfItem_0 4 rfl rfl)
theorem dX3_placeOfItem_7 : decode cX3_placeOfItem 7 = .ok (.bipush 9, 2) := dk_16 9 (dk_at dksX3_placeOfItem_0 7 rfl rfl)
theorem dX3_placeOfItem_9 : decode cX3_placeOfItem 9 = .ok (.iaload, 1) := dk_46 (dk_at dksX3_placeOfItem_0 9 rfl rfl)
theorem dX3_placeOfItem_10 : decode cX3_placeOfItem 10 = .ok (.if_icmp .ge 21, 3) := dk_162 0 21 (dk_at dksX3_placeOfItem_0 10 rfl rfl)
theorem dX3_placeOfItem_13 : decode cX3_placeOfItem 13 = .ok (.aload_n 0, 1) := dk_42 (dk_at dksX3_placeOfItem_0 13 rfl rfl)
theorem dX3_placeOfItem_14 : decode cX3_placeOfItem 14 = .ok (.iload_n 2, 1) := dk_28 (dk_at dksX3_placeOfItem_0 14 rfl rfl)
theorem dX3_placeOfItem_15 : decode cX3_placeOfItem 15 = .ok (.iconst 0, 1) := dk_3 (dk_at dksX3_placeOfItem_0 15 rfl rfl)
theorem dX3_placeOfItem_16 : decode cX3_placeOfItem 16 = .ok (.invokevirtual 49, 3) := dk_182 0 49 (dk_at dksX3_placeOfItem_0 16 rfl rfl)
theorem dX3_placeOfItem_19 : decode cX3_placeOfItem 19 = .ok (.iload_n 1, 1) := dk_27 (dk_at dksX3_placeOfItem_0 19 rfl rfl)
theorem dX3_placeOfItem_20 : decode cX3_placeOfItem 20 = .ok (.if_icmp .ne 5, 3) := dk_160 0 5 (dk_at dksX3_placeOfItem_0 20 rfl rfl)
theorem dX3_placeOfItem_23 : decode cX3_placeOfItem 23 = .ok (.iload_n 2, 1) := dk_28 (dk_at dksX3_placeOfItem_0 23 rfl rfl)
theorem dX3_placeOfItem_24 : decode cX3_placeOfItem 24 = .ok (.ireturn, 1) := dk_172 (dk_at dksX3_placeOfItem_1 0 rfl rfl)
theorem dX3_placeOfItem_25 : decode cX3_placeOfItem 25 = .ok (.iinc 2 1, 3) := dk_132 2 1 (dk_at dksX3_placeOfItem_1 1 rfl rfl)
theorem dX3_placeOfItem_28 : decode cX3_placeOfItem 28 = .ok (.goto (-26), 3) := dk_167 255 230 (dk_at dksX3_placeOfItem_1 4 rfl rfl)
theorem dX3_placeOfItem_31 : decode cX3_placeOfItem 31 = .ok (.iconst (-1), 1) := dk_2 (dk_at dksX3_placeOfItem_1 7 rfl rfl)
theorem dX3_placeOfItem_32 : decode cX3_placeOfItem 32 = .ok (.ireturn, 1) := dk_172 (dk_at dksX3_placeOfItem_1 8 rfl rfl)
abbrev cX3_pick : ByteArray := prog_8_method_33_code
def yX3_pick : MethodName := ⟨RX3, "pick", "(I)I"⟩
def dkwX3_pick_1 : List UInt8 := [167, 0, 4, 5, 182, 0, 121, 172, 42, 182, 0, 131, 42, 27, 182, 0, 89, 172]
abbrev dktX3_pick_1 : List UInt8 := dkwX3_pick_1 ++ []
def dkwX3_pick_0 : List UInt8 := [42, 3, 181, 0, 38, 42, 27, 182, 0, 86, 61, 28, 153, 0, 18, 42, 28, 4, 160, 0, 7, 4]
abbrev dktX3_pick_0 : List UInt8 := dkwX3_pick_0 ++ dktX3_pick_1
theorem dksX3_pick_0 : cX3_pick.data.toList.drop 0 = dktX3_pick_0 := by decide +kernel
theorem dksX3_pick_1 : cX3_pick.data.toList.drop 22 = dktX3_pick_1 := dk_seg dksX3_pick_0 22 rfl rfl
theorem dX3_pick_0 : decode cX3_pick 0 = .ok (.aload_n 0, 1) := dk_42 (dk_at dksX3_pick_0 0 rfl rfl)
theorem dX3_pick_1 : decode cX3_pick 1 = .ok (.iconst 0, 1) := dk_3 (dk_at dksX3_pick_0 1 rfl rfl)
theorem dX3_pick_2 : decode cX3_pick 2 = .ok (.putfield 38, 3) := dk_181 0 38 (dk_at dksX3_pick_0 2 rfl rfl)
theorem dX3_pick_5 : decode cX3_pick 5 = .ok (.aload_n 0, 1) := dk_42 (dk_at dksX3_pick_0 5 rfl rfl)
theorem dX3_pick_6 : decode cX3_pick 6 = .ok (.iload_n 1, 1) := dk_27 (dk_at dksX3_pick_0 6 rfl rfl)
theorem dX3_pick_7 : decode cX3_pick 7 = .ok (.invokevirtual 86, 3) := dk_182 0 86 (dk_at dksX3_pick_0 7 rfl rfl)
theorem dX3_pick_10 : decode cX3_pick 10 = .ok (.istore_n 2, 1) := dk_61 (dk_at dksX3_pick_0 10 rfl rfl)
theorem dX3_pick_11 : decode cX3_pick 11 = .ok (.iload_n 2, 1) := dk_28 (dk_at dksX3_pick_0 11 rfl rfl)
theorem dX3_pick_12 : decode cX3_pick 12 = .ok (.ifCond .eq 18, 3) := dk_153 0 18 (dk_at dksX3_pick_0 12 rfl rfl)
theorem dX3_pick_15 : decode cX3_pick 15 = .ok (.aload_n 0, 1) := dk_42 (dk_at dksX3_pick_0 15 rfl rfl)
theorem dX3_pick_16 : decode cX3_pick 16 = .ok (.iload_n 2, 1) := dk_28 (dk_at dksX3_pick_0 16 rfl rfl)
theorem dX3_pick_17 : decode cX3_pick 17 = .ok (.iconst 1, 1) := dk_4 (dk_at dksX3_pick_0 17 rfl rfl)
theorem dX3_pick_18 : decode cX3_pick 18 = .ok (.if_icmp .ne 7, 3) := dk_160 0 7 (dk_at dksX3_pick_0 18 rfl rfl)
theorem dX3_pick_21 : decode cX3_pick 21 = .ok (.iconst 1, 1) := dk_4 (dk_at dksX3_pick_0 21 rfl rfl)
theorem dX3_pick_22 : decode cX3_pick 22 = .ok (.goto 4, 3) := dk_167 0 4 (dk_at dksX3_pick_1 0 rfl rfl)
theorem dX3_pick_25 : decode cX3_pick 25 = .ok (.iconst 2, 1) := dk_5 (dk_at dksX3_pick_1 3 rfl rfl)
theorem dX3_pick_26 : decode cX3_pick 26 = .ok (.invokevirtual 121, 3) := dk_182 0 121 (dk_at dksX3_pick_1 4 rfl rfl)
theorem dX3_pick_29 : decode cX3_pick 29 = .ok (.ireturn, 1) := dk_172 (dk_at dksX3_pick_1 7 rfl rfl)
theorem dX3_pick_30 : decode cX3_pick 30 = .ok (.aload_n 0, 1) := dk_42 (dk_at dksX3_pick_1 8 rfl rfl)
theorem dX3_pick_31 : decode cX3_pick 31 = .ok (.invokevirtual 131, 3) := dk_182 0 131 (dk_at dksX3_pick_1 9 rfl rfl)
theorem dX3_pick_34 : decode cX3_pick 34 = .ok (.aload_n 0, 1) := dk_42 (dk_at dksX3_pick_1 12 rfl rfl)
theorem dX3_pick_35 : decode cX3_pick 35 = .ok (.iload_n 1, 1) := dk_27 (dk_at dksX3_pick_1 13 rfl rfl)
theorem dX3_pick_36 : decode cX3_pick 36 = .ok (.invokevirtual 89, 3) := dk_182 0 89 (dk_at dksX3_pick_1 14 rfl rfl)
theorem dX3_pick_39 : decode cX3_pick 39 = .ok (.ireturn, 1) := dk_172 (dk_at dksX3_pick_1 17 rfl rfl)
abbrev cX3_reason : ByteArray := prog_8_method_20_code
def yX3_reason : MethodName := ⟨RX3, "reason", "(I)I"⟩
def dkwX3_reason_2 : List UInt8 := [16, 99, 160, 0, 7, 6, 167, 0, 4, 3, 172]
abbrev dktX3_reason_2 : List UInt8 := dkwX3_reason_2 ++ []
def dkwX3_reason_1 : List UInt8 := [182, 0, 49, 96, 46, 4, 160, 0, 7, 5, 167, 0, 23, 42, 42, 28, 5, 182, 0, 49, 182, 0, 64]
abbrev dktX3_reason_1 : List UInt8 := dkwX3_reason_1 ++ dktX3_reason_2
def dkwX3_reason_0 : List UInt8 := [42, 27, 182, 0, 70, 61, 28, 2, 160, 0, 5, 4, 172, 42, 180, 0, 7, 16, 10, 42, 28, 5]
abbrev dktX3_reason_0 : List UInt8 := dkwX3_reason_0 ++ dktX3_reason_1
theorem dksX3_reason_0 : cX3_reason.data.toList.drop 0 = dktX3_reason_0 := by decide +kernel
theorem dksX3_reason_1 : cX3_reason.data.toList.drop 22 = dktX3_reason_1 := dk_seg dksX3_reason_0 22 rfl rfl
theorem dksX3_reason_2 : cX3_reason.data.toList.drop 45 = dktX3_reason_2 := dk_seg dksX3_reason_1 23 rfl rfl
theorem dX3_reason_0 : decode cX3_reason 0 = .ok (.aload_n 0, 1) := dk_42 (dk_at dksX3_reason_0 0 rfl rfl)
theorem dX3_reason_1 : decode cX3_reason 1 = .ok (.iload_n 1, 1) := dk_27 (dk_at dksX3_reason_0 1 rfl rfl)
theorem dX3_reason_2 : decode cX3_reason 2 = .ok (.invokevirtual 70, 3) := dk_182 0 70 (dk_at dksX3_reason_0 2 rfl rfl)
theorem dX3_reason_5 : decode cX3_reason 5 = .ok (.istore_n 2, 1) := dk_61 (dk_at dksX3_reason_0 5 rfl rfl)
theorem dX3_reason_6 : decode cX3_reason 6 = .ok (.iload_n 2, 1) := dk_28 (dk_at dksX3_reason_0 6 rfl rfl)
theorem dX3_reason_7 : decode cX3_reason 7 = .ok (.iconst (-1), 1) := dk_2 (dk_at dksX3_reason_0 7 rfl rfl)
theorem dX3_reason_8 : decode cX3_reason 8 = .ok (.if_icmp .ne 5, 3) := dk_160 0 5 (dk_at dksX3_reason_0 8 rfl rfl)
theorem dX3_reason_11 : decode cX3_reason 11 = .ok (.iconst 1, 1) := dk_4 (dk_at dksX3_reason_0 11 rfl rfl)
theorem dX3_reason_12 : decode cX3_reason 12 = .ok (.ireturn, 1) := dk_172 (dk_at dksX3_reason_0 12 rfl rfl)
theorem dX3_reason_13 : decode cX3_reason 13 = .ok (.aload_n 0, 1) := dk_42 (dk_at dksX3_reason_0 13 rfl rfl)
theorem dX3_reason_14 : decode cX3_reason 14 = .ok (.getfield 7, 3) := dk_180 0 7 (dk_at dksX3_reason_0 14 rfl rfl)
theorem dX3_reason_17 : decode cX3_reason 17 = .ok (.bipush 10, 2) := dk_16 10 (dk_at dksX3_reason_0 17 rfl rfl)
theorem dX3_reason_19 : decode cX3_reason 19 = .ok (.aload_n 0, 1) := dk_42 (dk_at dksX3_reason_0 19 rfl rfl)
theorem dX3_reason_20 : decode cX3_reason 20 = .ok (.iload_n 2, 1) := dk_28 (dk_at dksX3_reason_0 20 rfl rfl)
theorem dX3_reason_21 : decode cX3_reason 21 = .ok (.iconst 2, 1) := dk_5 (dk_at dksX3_reason_0 21 rfl rfl)
theorem dX3_reason_22 : decode cX3_reason 22 = .ok (.invokevirtual 49, 3) := dk_182 0 49 (dk_at dksX3_reason_1 0 rfl rfl)
theorem dX3_reason_25 : decode cX3_reason 25 = .ok (.iadd, 1) := dk_96 (dk_at dksX3_reason_1 3 rfl rfl)
theorem dX3_reason_26 : decode cX3_reason 26 = .ok (.iaload, 1) := dk_46 (dk_at dksX3_reason_1 4 rfl rfl)
theorem dX3_reason_27 : decode cX3_reason 27 = .ok (.iconst 1, 1) := dk_4 (dk_at dksX3_reason_1 5 rfl rfl)
theorem dX3_reason_28 : decode cX3_reason 28 = .ok (.if_icmp .ne 7, 3) := dk_160 0 7 (dk_at dksX3_reason_1 6 rfl rfl)
theorem dX3_reason_31 : decode cX3_reason 31 = .ok (.iconst 2, 1) := dk_5 (dk_at dksX3_reason_1 9 rfl rfl)
theorem dX3_reason_32 : decode cX3_reason 32 = .ok (.goto 23, 3) := dk_167 0 23 (dk_at dksX3_reason_1 10 rfl rfl)
theorem dX3_reason_35 : decode cX3_reason 35 = .ok (.aload_n 0, 1) := dk_42 (dk_at dksX3_reason_1 13 rfl rfl)
theorem dX3_reason_36 : decode cX3_reason 36 = .ok (.aload_n 0, 1) := dk_42 (dk_at dksX3_reason_1 14 rfl rfl)
theorem dX3_reason_37 : decode cX3_reason 37 = .ok (.iload_n 2, 1) := dk_28 (dk_at dksX3_reason_1 15 rfl rfl)
theorem dX3_reason_38 : decode cX3_reason 38 = .ok (.iconst 2, 1) := dk_5 (dk_at dksX3_reason_1 16 rfl rfl)
theorem dX3_reason_39 : decode cX3_reason 39 = .ok (.invokevirtual 49, 3) := dk_182 0 49 (dk_at dksX3_reason_1 17 rfl rfl)
theorem dX3_reason_42 : decode cX3_reason 42 = .ok (.invokevirtual 64, 3) := dk_182 0 64 (dk_at dksX3_reason_1 20 rfl rfl)
theorem dX3_reason_45 : decode cX3_reason 45 = .ok (.bipush 99, 2) := dk_16 99 (dk_at dksX3_reason_2 0 rfl rfl)
theorem dX3_reason_47 : decode cX3_reason 47 = .ok (.if_icmp .ne 7, 3) := dk_160 0 7 (dk_at dksX3_reason_2 2 rfl rfl)
theorem dX3_reason_50 : decode cX3_reason 50 = .ok (.iconst 3, 1) := dk_6 (dk_at dksX3_reason_2 5 rfl rfl)
theorem dX3_reason_51 : decode cX3_reason 51 = .ok (.goto 4, 3) := dk_167 0 4 (dk_at dksX3_reason_2 6 rfl rfl)
theorem dX3_reason_54 : decode cX3_reason 54 = .ok (.iconst 0, 1) := dk_3 (dk_at dksX3_reason_2 9 rfl rfl)
theorem dX3_reason_55 : decode cX3_reason 55 = .ok (.ireturn, 1) := dk_172 (dk_at dksX3_reason_2 10 rfl rfl)
abbrev cX3_wayTo : ByteArray := prog_8_method_17_code
def yX3_wayTo : MethodName := ⟨RX3, "wayTo", "(I)I"⟩
def dkwX3_wayTo_3 : List UInt8 := [167, 0, 5, 29, 116, 172]
abbrev dktX3_wayTo_3 : List UInt8 := dkwX3_wayTo_3 ++ []
def dkwX3_wayTo_2 : List UInt8 := [154, 0, 6, 16, 99, 172, 21, 4, 153, 0, 18, 28, 16, 6, 164, 0, 8, 21, 5, 154, 0, 7, 28]
abbrev dktX3_wayTo_2 : List UInt8 := dkwX3_wayTo_2 ++ dktX3_wayTo_3
def dkwX3_wayTo_1 : List UInt8 := [4, 182, 0, 60, 54, 4, 42, 29, 16, 11, 182, 0, 60, 54, 5, 21, 4, 154, 0, 11, 21, 5]
abbrev dktX3_wayTo_1 : List UInt8 := dkwX3_wayTo_1 ++ dktX3_wayTo_2
def dkwX3_wayTo_0 : List UInt8 := [27, 42, 180, 0, 7, 6, 46, 184, 0, 53, 61, 16, 12, 28, 100, 62, 28, 154, 0, 5, 3, 172, 42, 28]
abbrev dktX3_wayTo_0 : List UInt8 := dkwX3_wayTo_0 ++ dktX3_wayTo_1
theorem dksX3_wayTo_0 : cX3_wayTo.data.toList.drop 0 = dktX3_wayTo_0 := by decide +kernel
theorem dksX3_wayTo_1 : cX3_wayTo.data.toList.drop 24 = dktX3_wayTo_1 := dk_seg dksX3_wayTo_0 24 rfl rfl
theorem dksX3_wayTo_2 : cX3_wayTo.data.toList.drop 46 = dktX3_wayTo_2 := dk_seg dksX3_wayTo_1 22 rfl rfl
theorem dksX3_wayTo_3 : cX3_wayTo.data.toList.drop 69 = dktX3_wayTo_3 := dk_seg dksX3_wayTo_2 23 rfl rfl
theorem dX3_wayTo_0 : decode cX3_wayTo 0 = .ok (.iload_n 1, 1) := dk_27 (dk_at dksX3_wayTo_0 0 rfl rfl)
theorem dX3_wayTo_1 : decode cX3_wayTo 1 = .ok (.aload_n 0, 1) := dk_42 (dk_at dksX3_wayTo_0 1 rfl rfl)
theorem dX3_wayTo_2 : decode cX3_wayTo 2 = .ok (.getfield 7, 3) := dk_180 0 7 (dk_at dksX3_wayTo_0 2 rfl rfl)
theorem dX3_wayTo_5 : decode cX3_wayTo 5 = .ok (.iconst 3, 1) := dk_6 (dk_at dksX3_wayTo_0 5 rfl rfl)
theorem dX3_wayTo_6 : decode cX3_wayTo 6 = .ok (.iaload, 1) := dk_46 (dk_at dksX3_wayTo_0 6 rfl rfl)
theorem dX3_wayTo_7 : decode cX3_wayTo 7 = .ok (.invokestatic 53, 3) := dk_184 0 53 (dk_at dksX3_wayTo_0 7 rfl rfl)
theorem dX3_wayTo_10 : decode cX3_wayTo 10 = .ok (.istore_n 2, 1) := dk_61 (dk_at dksX3_wayTo_0 10 rfl rfl)
theorem dX3_wayTo_11 : decode cX3_wayTo 11 = .ok (.bipush 12, 2) := dk_16 12 (dk_at dksX3_wayTo_0 11 rfl rfl)
theorem dX3_wayTo_13 : decode cX3_wayTo 13 = .ok (.iload_n 2, 1) := dk_28 (dk_at dksX3_wayTo_0 13 rfl rfl)
theorem dX3_wayTo_14 : decode cX3_wayTo 14 = .ok (.isub, 1) := dk_100 (dk_at dksX3_wayTo_0 14 rfl rfl)
theorem dX3_wayTo_15 : decode cX3_wayTo 15 = .ok (.istore_n 3, 1) := dk_62 (dk_at dksX3_wayTo_0 15 rfl rfl)
theorem dX3_wayTo_16 : decode cX3_wayTo 16 = .ok (.iload_n 2, 1) := dk_28 (dk_at dksX3_wayTo_0 16 rfl rfl)
theorem dX3_wayTo_17 : decode cX3_wayTo 17 = .ok (.ifCond .ne 5, 3) := dk_154 0 5 (dk_at dksX3_wayTo_0 17 rfl rfl)
theorem dX3_wayTo_20 : decode cX3_wayTo 20 = .ok (.iconst 0, 1) := dk_3 (dk_at dksX3_wayTo_0 20 rfl rfl)
theorem dX3_wayTo_21 : decode cX3_wayTo 21 = .ok (.ireturn, 1) := dk_172 (dk_at dksX3_wayTo_0 21 rfl rfl)
theorem dX3_wayTo_22 : decode cX3_wayTo 22 = .ok (.aload_n 0, 1) := dk_42 (dk_at dksX3_wayTo_0 22 rfl rfl)
theorem dX3_wayTo_23 : decode cX3_wayTo 23 = .ok (.iload_n 2, 1) := dk_28 (dk_at dksX3_wayTo_0 23 rfl rfl)
theorem dX3_wayTo_24 : decode cX3_wayTo 24 = .ok (.iconst 1, 1) := dk_4 (dk_at dksX3_wayTo_1 0 rfl rfl)
theorem dX3_wayTo_25 : decode cX3_wayTo 25 = .ok (.invokevirtual 60, 3) := dk_182 0 60 (dk_at dksX3_wayTo_1 1 rfl rfl)
theorem dX3_wayTo_28 : decode cX3_wayTo 28 = .ok (.istore 4, 2) := dk_54 4 (dk_at dksX3_wayTo_1 4 rfl rfl)
theorem dX3_wayTo_30 : decode cX3_wayTo 30 = .ok (.aload_n 0, 1) := dk_42 (dk_at dksX3_wayTo_1 6 rfl rfl)
theorem dX3_wayTo_31 : decode cX3_wayTo 31 = .ok (.iload_n 3, 1) := dk_29 (dk_at dksX3_wayTo_1 7 rfl rfl)
theorem dX3_wayTo_32 : decode cX3_wayTo 32 = .ok (.bipush 11, 2) := dk_16 11 (dk_at dksX3_wayTo_1 8 rfl rfl)
theorem dX3_wayTo_34 : decode cX3_wayTo 34 = .ok (.invokevirtual 60, 3) := dk_182 0 60 (dk_at dksX3_wayTo_1 10 rfl rfl)
theorem dX3_wayTo_37 : decode cX3_wayTo 37 = .ok (.istore 5, 2) := dk_54 5 (dk_at dksX3_wayTo_1 13 rfl rfl)
theorem dX3_wayTo_39 : decode cX3_wayTo 39 = .ok (.iload 4, 2) := dk_21 4 (dk_at dksX3_wayTo_1 15 rfl rfl)
theorem dX3_wayTo_41 : decode cX3_wayTo 41 = .ok (.ifCond .ne 11, 3) := dk_154 0 11 (dk_at dksX3_wayTo_1 17 rfl rfl)
theorem dX3_wayTo_44 : decode cX3_wayTo 44 = .ok (.iload 5, 2) := dk_21 5 (dk_at dksX3_wayTo_1 20 rfl rfl)
theorem dX3_wayTo_46 : decode cX3_wayTo 46 = .ok (.ifCond .ne 6, 3) := dk_154 0 6 (dk_at dksX3_wayTo_2 0 rfl rfl)
theorem dX3_wayTo_49 : decode cX3_wayTo 49 = .ok (.bipush 99, 2) := dk_16 99 (dk_at dksX3_wayTo_2 3 rfl rfl)
theorem dX3_wayTo_51 : decode cX3_wayTo 51 = .ok (.ireturn, 1) := dk_172 (dk_at dksX3_wayTo_2 5 rfl rfl)
theorem dX3_wayTo_52 : decode cX3_wayTo 52 = .ok (.iload 4, 2) := dk_21 4 (dk_at dksX3_wayTo_2 6 rfl rfl)
theorem dX3_wayTo_54 : decode cX3_wayTo 54 = .ok (.ifCond .eq 18, 3) := dk_153 0 18 (dk_at dksX3_wayTo_2 8 rfl rfl)
theorem dX3_wayTo_57 : decode cX3_wayTo 57 = .ok (.iload_n 2, 1) := dk_28 (dk_at dksX3_wayTo_2 11 rfl rfl)
theorem dX3_wayTo_58 : decode cX3_wayTo 58 = .ok (.bipush 6, 2) := dk_16 6 (dk_at dksX3_wayTo_2 12 rfl rfl)
theorem dX3_wayTo_60 : decode cX3_wayTo 60 = .ok (.if_icmp .le 8, 3) := dk_164 0 8 (dk_at dksX3_wayTo_2 14 rfl rfl)
theorem dX3_wayTo_63 : decode cX3_wayTo 63 = .ok (.iload 5, 2) := dk_21 5 (dk_at dksX3_wayTo_2 17 rfl rfl)
theorem dX3_wayTo_65 : decode cX3_wayTo 65 = .ok (.ifCond .ne 7, 3) := dk_154 0 7 (dk_at dksX3_wayTo_2 19 rfl rfl)
theorem dX3_wayTo_68 : decode cX3_wayTo 68 = .ok (.iload_n 2, 1) := dk_28 (dk_at dksX3_wayTo_2 22 rfl rfl)
theorem dX3_wayTo_69 : decode cX3_wayTo 69 = .ok (.goto 5, 3) := dk_167 0 5 (dk_at dksX3_wayTo_3 0 rfl rfl)
theorem dX3_wayTo_72 : decode cX3_wayTo 72 = .ok (.iload_n 3, 1) := dk_29 (dk_at dksX3_wayTo_3 3 rfl rfl)
theorem dX3_wayTo_73 : decode cX3_wayTo 73 = .ok (.ineg, 1) := dk_116 (dk_at dksX3_wayTo_3 4 rfl rfl)
theorem dX3_wayTo_74 : decode cX3_wayTo 74 = .ok (.ireturn, 1) := dk_172 (dk_at dksX3_wayTo_3 5 rfl rfl)
abbrev cX3_isOpen : ByteArray := prog_8_method_16_code
def yX3_isOpen : MethodName := ⟨RX3, "isOpen", "(II)Z"⟩
def dkwX3_isOpen_2 : List UInt8 := [132, 4, 1, 167, 255, 210, 29, 172]
abbrev dktX3_isOpen_2 : List UInt8 := dkwX3_isOpen_2 ++ []
def dkwX3_isOpen_1 : List UInt8 := [28, 104, 96, 16, 12, 112, 182, 0, 56, 42, 180, 0, 7, 3, 46, 163, 0, 7, 4, 167, 0, 4, 3, 62]
abbrev dktX3_isOpen_1 : List UInt8 := dkwX3_isOpen_1 ++ dktX3_isOpen_2
def dkwX3_isOpen_0 : List UInt8 := [4, 62, 4, 54, 4, 21, 4, 27, 163, 0, 46, 29, 153, 0, 34, 42, 42, 180, 0, 7, 6, 46, 21, 4]
abbrev dktX3_isOpen_0 : List UInt8 := dkwX3_isOpen_0 ++ dktX3_isOpen_1
theorem dksX3_isOpen_0 : cX3_isOpen.data.toList.drop 0 = dktX3_isOpen_0 := by decide +kernel
theorem dksX3_isOpen_1 : cX3_isOpen.data.toList.drop 24 = dktX3_isOpen_1 := dk_seg dksX3_isOpen_0 24 rfl rfl
theorem dksX3_isOpen_2 : cX3_isOpen.data.toList.drop 48 = dktX3_isOpen_2 := dk_seg dksX3_isOpen_1 24 rfl rfl
theorem dX3_isOpen_0 : decode cX3_isOpen 0 = .ok (.iconst 1, 1) := dk_4 (dk_at dksX3_isOpen_0 0 rfl rfl)
theorem dX3_isOpen_1 : decode cX3_isOpen 1 = .ok (.istore_n 3, 1) := dk_62 (dk_at dksX3_isOpen_0 1 rfl rfl)
theorem dX3_isOpen_2 : decode cX3_isOpen 2 = .ok (.iconst 1, 1) := dk_4 (dk_at dksX3_isOpen_0 2 rfl rfl)
theorem dX3_isOpen_3 : decode cX3_isOpen 3 = .ok (.istore 4, 2) := dk_54 4 (dk_at dksX3_isOpen_0 3 rfl rfl)
theorem dX3_isOpen_5 : decode cX3_isOpen 5 = .ok (.iload 4, 2) := dk_21 4 (dk_at dksX3_isOpen_0 5 rfl rfl)
theorem dX3_isOpen_7 : decode cX3_isOpen 7 = .ok (.iload_n 1, 1) := dk_27 (dk_at dksX3_isOpen_0 7 rfl rfl)
theorem dX3_isOpen_8 : decode cX3_isOpen 8 = .ok (.if_icmp .gt 46, 3) := dk_163 0 46 (dk_at dksX3_isOpen_0 8 rfl rfl)
theorem dX3_isOpen_11 : decode cX3_isOpen 11 = .ok (.iload_n 3, 1) := dk_29 (dk_at dksX3_isOpen_0 11 rfl rfl)
theorem dX3_isOpen_12 : decode cX3_isOpen 12 = .ok (.ifCond .eq 34, 3) := dk_153 0 34 (dk_at dksX3_isOpen_0 12 rfl rfl)
theorem dX3_isOpen_15 : decode cX3_isOpen 15 = .ok (.aload_n 0, 1) := dk_42 (dk_at dksX3_isOpen_0 15 rfl rfl)
theorem dX3_isOpen_16 : decode cX3_isOpen 16 = .ok (.aload_n 0, 1) := dk_42 (dk_at dksX3_isOpen_0 16 rfl rfl)
theorem dX3_isOpen_17 : decode cX3_isOpen 17 = .ok (.getfield 7, 3) := dk_180 0 7 (dk_at dksX3_isOpen_0 17 rfl rfl)
theorem dX3_isOpen_20 : decode cX3_isOpen 20 = .ok (.iconst 3, 1) := dk_6 (dk_at dksX3_isOpen_0 20 rfl rfl)
theorem dX3_isOpen_21 : decode cX3_isOpen 21 = .ok (.iaload, 1) := dk_46 (dk_at dksX3_isOpen_0 21 rfl rfl)
theorem dX3_isOpen_22 : decode cX3_isOpen 22 = .ok (.iload 4, 2) := dk_21 4 (dk_at dksX3_isOpen_0 22 rfl rfl)
theorem dX3_isOpen_24 : decode cX3_isOpen 24 = .ok (.iload_n 2, 1) := dk_28 (dk_at dksX3_isOpen_1 0 rfl rfl)
theorem dX3_isOpen_25 : decode cX3_isOpen 25 = .ok (.imul, 1) := dk_104 (dk_at dksX3_isOpen_1 1 rfl rfl)
theorem dX3_isOpen_26 : decode cX3_isOpen 26 = .ok (.iadd, 1) := dk_96 (dk_at dksX3_isOpen_1 2 rfl rfl)
theorem dX3_isOpen_27 : decode cX3_isOpen 27 = .ok (.bipush 12, 2) := dk_16 12 (dk_at dksX3_isOpen_1 3 rfl rfl)
theorem dX3_isOpen_29 : decode cX3_isOpen 29 = .ok (.irem, 1) := dk_112 (dk_at dksX3_isOpen_1 5 rfl rfl)
theorem dX3_isOpen_30 : decode cX3_isOpen 30 = .ok (.invokevirtual 56, 3) := dk_182 0 56 (dk_at dksX3_isOpen_1 6 rfl rfl)
theorem dX3_isOpen_33 : decode cX3_isOpen 33 = .ok (.aload_n 0, 1) := dk_42 (dk_at dksX3_isOpen_1 9 rfl rfl)
theorem dX3_isOpen_34 : decode cX3_isOpen 34 = .ok (.getfield 7, 3) := dk_180 0 7 (dk_at dksX3_isOpen_1 10 rfl rfl)
theorem dX3_isOpen_37 : decode cX3_isOpen 37 = .ok (.iconst 0, 1) := dk_3 (dk_at dksX3_isOpen_1 13 rfl rfl)
theorem dX3_isOpen_38 : decode cX3_isOpen 38 = .ok (.iaload, 1) := dk_46 (dk_at dksX3_isOpen_1 14 rfl rfl)
theorem dX3_isOpen_39 : decode cX3_isOpen 39 = .ok (.if_icmp .gt 7, 3) := dk_163 0 7 (dk_at dksX3_isOpen_1 15 rfl rfl)
theorem dX3_isOpen_42 : decode cX3_isOpen 42 = .ok (.iconst 1, 1) := dk_4 (dk_at dksX3_isOpen_1 18 rfl rfl)
theorem dX3_isOpen_43 : decode cX3_isOpen 43 = .ok (.goto 4, 3) := dk_167 0 4 (dk_at dksX3_isOpen_1 19 rfl rfl)
theorem dX3_isOpen_46 : decode cX3_isOpen 46 = .ok (.iconst 0, 1) := dk_3 (dk_at dksX3_isOpen_1 22 rfl rfl)
theorem dX3_isOpen_47 : decode cX3_isOpen 47 = .ok (.istore_n 3, 1) := dk_62 (dk_at dksX3_isOpen_1 23 rfl rfl)
theorem dX3_isOpen_48 : decode cX3_isOpen 48 = .ok (.iinc 4 1, 3) := dk_132 4 1 (dk_at dksX3_isOpen_2 0 rfl rfl)
theorem dX3_isOpen_51 : decode cX3_isOpen 51 = .ok (.goto (-46), 3) := dk_167 255 210 (dk_at dksX3_isOpen_2 3 rfl rfl)
theorem dX3_isOpen_54 : decode cX3_isOpen 54 = .ok (.iload_n 3, 1) := dk_29 (dk_at dksX3_isOpen_2 6 rfl rfl)
theorem dX3_isOpen_55 : decode cX3_isOpen 55 = .ok (.ireturn, 1) := dk_172 (dk_at dksX3_isOpen_2 7 rfl rfl)
abbrev cX3_picks : ByteArray := prog_8_method_22_code
def yX3_picks : MethodName := ⟨RX3, "picks", "(I)I"⟩
def dkwX3_picks_1 : List UInt8 := [182, 0, 80, 42, 180, 0, 7, 16, 7, 92, 46, 4, 96, 79, 28, 172]
abbrev dktX3_picks_1 : List UInt8 := dkwX3_picks_1 ++ []
def dkwX3_picks_0 : List UInt8 := [42, 27, 182, 0, 73, 61, 42, 27, 182, 0, 70, 62, 42, 42, 29, 5, 182, 0, 49, 182, 0, 76, 42, 29]
abbrev dktX3_picks_0 : List UInt8 := dkwX3_picks_0 ++ dktX3_picks_1
theorem dksX3_picks_0 : cX3_picks.data.toList.drop 0 = dktX3_picks_0 := by decide +kernel
theorem dksX3_picks_1 : cX3_picks.data.toList.drop 24 = dktX3_picks_1 := dk_seg dksX3_picks_0 24 rfl rfl
theorem dX3_picks_0 : decode cX3_picks 0 = .ok (.aload_n 0, 1) := dk_42 (dk_at dksX3_picks_0 0 rfl rfl)
theorem dX3_picks_1 : decode cX3_picks 1 = .ok (.iload_n 1, 1) := dk_27 (dk_at dksX3_picks_0 1 rfl rfl)
theorem dX3_picks_2 : decode cX3_picks 2 = .ok (.invokevirtual 73, 3) := dk_182 0 73 (dk_at dksX3_picks_0 2 rfl rfl)
theorem dX3_picks_5 : decode cX3_picks 5 = .ok (.istore_n 2, 1) := dk_61 (dk_at dksX3_picks_0 5 rfl rfl)
theorem dX3_picks_6 : decode cX3_picks 6 = .ok (.aload_n 0, 1) := dk_42 (dk_at dksX3_picks_0 6 rfl rfl)
theorem dX3_picks_7 : decode cX3_picks 7 = .ok (.iload_n 1, 1) := dk_27 (dk_at dksX3_picks_0 7 rfl rfl)
theorem dX3_picks_8 : decode cX3_picks 8 = .ok (.invokevirtual 70, 3) := dk_182 0 70 (dk_at dksX3_picks_0 8 rfl rfl)
theorem dX3_picks_11 : decode cX3_picks 11 = .ok (.istore_n 3, 1) := dk_62 (dk_at dksX3_picks_0 11 rfl rfl)
theorem dX3_picks_12 : decode cX3_picks 12 = .ok (.aload_n 0, 1) := dk_42 (dk_at dksX3_picks_0 12 rfl rfl)
theorem dX3_picks_13 : decode cX3_picks 13 = .ok (.aload_n 0, 1) := dk_42 (dk_at dksX3_picks_0 13 rfl rfl)
theorem dX3_picks_14 : decode cX3_picks 14 = .ok (.iload_n 3, 1) := dk_29 (dk_at dksX3_picks_0 14 rfl rfl)
theorem dX3_picks_15 : decode cX3_picks 15 = .ok (.iconst 2, 1) := dk_5 (dk_at dksX3_picks_0 15 rfl rfl)
theorem dX3_picks_16 : decode cX3_picks 16 = .ok (.invokevirtual 49, 3) := dk_182 0 49 (dk_at dksX3_picks_0 16 rfl rfl)
theorem dX3_picks_19 : decode cX3_picks 19 = .ok (.invokevirtual 76, 3) := dk_182 0 76 (dk_at dksX3_picks_0 19 rfl rfl)
theorem dX3_picks_22 : decode cX3_picks 22 = .ok (.aload_n 0, 1) := dk_42 (dk_at dksX3_picks_0 22 rfl rfl)
theorem dX3_picks_23 : decode cX3_picks 23 = .ok (.iload_n 3, 1) := dk_29 (dk_at dksX3_picks_0 23 rfl rfl)
theorem dX3_picks_24 : decode cX3_picks 24 = .ok (.invokevirtual 80, 3) := dk_182 0 80 (dk_at dksX3_picks_1 0 rfl rfl)
theorem dX3_picks_27 : decode cX3_picks 27 = .ok (.aload_n 0, 1) := dk_42 (dk_at dksX3_picks_1 3 rfl rfl)
theorem dX3_picks_28 : decode cX3_picks 28 = .ok (.getfield 7, 3) := dk_180 0 7 (dk_at dksX3_picks_1 4 rfl rfl)
theorem dX3_picks_31 : decode cX3_picks 31 = .ok (.bipush 7, 2) := dk_16 7 (dk_at dksX3_picks_1 7 rfl rfl)
theorem dX3_picks_33 : decode cX3_picks 33 = .ok (.dup2, 1) := dk_92 (dk_at dksX3_picks_1 9 rfl rfl)
theorem dX3_picks_34 : decode cX3_picks 34 = .ok (.iaload, 1) := dk_46 (dk_at dksX3_picks_1 10 rfl rfl)
theorem dX3_picks_35 : decode cX3_picks 35 = .ok (.iconst 1, 1) := dk_4 (dk_at dksX3_picks_1 11 rfl rfl)
theorem dX3_picks_36 : decode cX3_picks 36 = .ok (.iadd, 1) := dk_96 (dk_at dksX3_picks_1 12 rfl rfl)
theorem dX3_picks_37 : decode cX3_picks 37 = .ok (.iastore, 1) := dk_79 (dk_at dksX3_picks_1 13 rfl rfl)
theorem dX3_picks_38 : decode cX3_picks 38 = .ok (.iload_n 2, 1) := dk_28 (dk_at dksX3_picks_1 14 rfl rfl)
theorem dX3_picks_39 : decode cX3_picks 39 = .ok (.ireturn, 1) := dk_172 (dk_at dksX3_picks_1 15 rfl rfl)
abbrev cX3_stepsTo : ByteArray := prog_8_method_21_code
def yX3_stepsTo : MethodName := ⟨RX3, "stepsTo", "(I)I"⟩
def dkwX3_stepsTo_0 : List UInt8 := [42, 42, 42, 27, 182, 0, 70, 5, 182, 0, 49, 182, 0, 64, 184, 0, 67, 172]
abbrev dktX3_stepsTo_0 : List UInt8 := dkwX3_stepsTo_0 ++ []
theorem dksX3_stepsTo_0 : cX3_stepsTo.data.toList.drop 0 = dktX3_stepsTo_0 := by decide +kernel
theorem dX3_stepsTo_0 : decode cX3_stepsTo 0 = .ok (.aload_n 0, 1) := dk_42 (dk_at dksX3_stepsTo_0 0 rfl rfl)
theorem dX3_stepsTo_1 : decode cX3_stepsTo 1 = .ok (.aload_n 0, 1) := dk_42 (dk_at dksX3_stepsTo_0 1 rfl rfl)
theorem dX3_stepsTo_2 : decode cX3_stepsTo 2 = .ok (.aload_n 0, 1) := dk_42 (dk_at dksX3_stepsTo_0 2 rfl rfl)
theorem dX3_stepsTo_3 : decode cX3_stepsTo 3 = .ok (.iload_n 1, 1) := dk_27 (dk_at dksX3_stepsTo_0 3 rfl rfl)
theorem dX3_stepsTo_4 : decode cX3_stepsTo 4 = .ok (.invokevirtual 70, 3) := dk_182 0 70 (dk_at dksX3_stepsTo_0 4 rfl rfl)
theorem dX3_stepsTo_7 : decode cX3_stepsTo 7 = .ok (.iconst 2, 1) := dk_5 (dk_at dksX3_stepsTo_0 7 rfl rfl)
theorem dX3_stepsTo_8 : decode cX3_stepsTo 8 = .ok (.invokevirtual 49, 3) := dk_182 0 49 (dk_at dksX3_stepsTo_0 8 rfl rfl)
theorem dX3_stepsTo_11 : decode cX3_stepsTo 11 = .ok (.invokevirtual 64, 3) := dk_182 0 64 (dk_at dksX3_stepsTo_0 11 rfl rfl)
theorem dX3_stepsTo_14 : decode cX3_stepsTo 14 = .ok (.invokestatic 67, 3) := dk_184 0 67 (dk_at dksX3_stepsTo_0 14 rfl rfl)
theorem dX3_stepsTo_17 : decode cX3_stepsTo 17 = .ok (.ireturn, 1) := dk_172 (dk_at dksX3_stepsTo_0 17 rfl rfl)
abbrev cX3_size : ByteArray := prog_8_method_18_code
def yX3_size : MethodName := ⟨RX3, "size", "(I)I"⟩
def dkwX3_size_0 : List UInt8 := [26, 156, 0, 8, 26, 116, 167, 0, 4, 26, 172]
abbrev dktX3_size_0 : List UInt8 := dkwX3_size_0 ++ []
theorem dksX3_size_0 : cX3_size.data.toList.drop 0 = dktX3_size_0 := by decide +kernel
theorem dX3_size_0 : decode cX3_size 0 = .ok (.iload_n 0, 1) := dk_26 (dk_at dksX3_size_0 0 rfl rfl)
theorem dX3_size_1 : decode cX3_size 1 = .ok (.ifCond .ge 8, 3) := dk_156 0 8 (dk_at dksX3_size_0 1 rfl rfl)
theorem dX3_size_4 : decode cX3_size 4 = .ok (.iload_n 0, 1) := dk_26 (dk_at dksX3_size_0 4 rfl rfl)
theorem dX3_size_5 : decode cX3_size 5 = .ok (.ineg, 1) := dk_116 (dk_at dksX3_size_0 5 rfl rfl)
theorem dX3_size_6 : decode cX3_size 6 = .ok (.goto 4, 3) := dk_167 0 4 (dk_at dksX3_size_0 6 rfl rfl)
theorem dX3_size_9 : decode cX3_size 9 = .ok (.iload_n 0, 1) := dk_26 (dk_at dksX3_size_0 9 rfl rfl)
theorem dX3_size_10 : decode cX3_size 10 = .ok (.ireturn, 1) := dk_172 (dk_at dksX3_size_0 10 rfl rfl)
abbrev cX3_turns : ByteArray := prog_8_method_19_code
def yX3_turns : MethodName := ⟨RX3, "turns", "(I)V"⟩
def dkwX3_turns_3 : List UInt8 := [79, 177]
abbrev dktX3_turns_3 : List UInt8 := dkwX3_turns_3 ++ []
def dkwX3_turns_2 : List UInt8 := [16, 6, 163, 0, 9, 28, 16, 251, 162, 0, 7, 4, 167, 0, 4, 3, 96, 79, 42, 180, 0, 7, 6, 27]
abbrev dktX3_turns_2 : List UInt8 := dkwX3_turns_2 ++ dktX3_turns_3
def dkwX3_turns_1 : List UInt8 := [92, 46, 28, 156, 0, 8, 28, 116, 167, 0, 4, 3, 96, 79, 42, 180, 0, 7, 16, 6, 92, 46, 28]
abbrev dktX3_turns_1 : List UInt8 := dkwX3_turns_1 ++ dktX3_turns_2
def dkwX3_turns_0 : List UInt8 := [42, 27, 182, 0, 64, 61, 42, 180, 0, 7, 7, 92, 46, 28, 184, 0, 67, 96, 79, 42, 180, 0, 7, 8]
abbrev dktX3_turns_0 : List UInt8 := dkwX3_turns_0 ++ dktX3_turns_1
theorem dksX3_turns_0 : cX3_turns.data.toList.drop 0 = dktX3_turns_0 := by decide +kernel
theorem dksX3_turns_1 : cX3_turns.data.toList.drop 24 = dktX3_turns_1 := dk_seg dksX3_turns_0 24 rfl rfl
theorem dksX3_turns_2 : cX3_turns.data.toList.drop 47 = dktX3_turns_2 := dk_seg dksX3_turns_1 23 rfl rfl
theorem dksX3_turns_3 : cX3_turns.data.toList.drop 71 = dktX3_turns_3 := dk_seg dksX3_turns_2 24 rfl rfl
theorem dX3_turns_0 : decode cX3_turns 0 = .ok (.aload_n 0, 1) := dk_42 (dk_at dksX3_turns_0 0 rfl rfl)
theorem dX3_turns_1 : decode cX3_turns 1 = .ok (.iload_n 1, 1) := dk_27 (dk_at dksX3_turns_0 1 rfl rfl)
theorem dX3_turns_2 : decode cX3_turns 2 = .ok (.invokevirtual 64, 3) := dk_182 0 64 (dk_at dksX3_turns_0 2 rfl rfl)
theorem dX3_turns_5 : decode cX3_turns 5 = .ok (.istore_n 2, 1) := dk_61 (dk_at dksX3_turns_0 5 rfl rfl)
theorem dX3_turns_6 : decode cX3_turns 6 = .ok (.aload_n 0, 1) := dk_42 (dk_at dksX3_turns_0 6 rfl rfl)
theorem dX3_turns_7 : decode cX3_turns 7 = .ok (.getfield 7, 3) := dk_180 0 7 (dk_at dksX3_turns_0 7 rfl rfl)
theorem dX3_turns_10 : decode cX3_turns 10 = .ok (.iconst 4, 1) := dk_7 (dk_at dksX3_turns_0 10 rfl rfl)
theorem dX3_turns_11 : decode cX3_turns 11 = .ok (.dup2, 1) := dk_92 (dk_at dksX3_turns_0 11 rfl rfl)
theorem dX3_turns_12 : decode cX3_turns 12 = .ok (.iaload, 1) := dk_46 (dk_at dksX3_turns_0 12 rfl rfl)
theorem dX3_turns_13 : decode cX3_turns 13 = .ok (.iload_n 2, 1) := dk_28 (dk_at dksX3_turns_0 13 rfl rfl)
theorem dX3_turns_14 : decode cX3_turns 14 = .ok (.invokestatic 67, 3) := dk_184 0 67 (dk_at dksX3_turns_0 14 rfl rfl)
theorem dX3_turns_17 : decode cX3_turns 17 = .ok (.iadd, 1) := dk_96 (dk_at dksX3_turns_0 17 rfl rfl)
theorem dX3_turns_18 : decode cX3_turns 18 = .ok (.iastore, 1) := dk_79 (dk_at dksX3_turns_0 18 rfl rfl)
theorem dX3_turns_19 : decode cX3_turns 19 = .ok (.aload_n 0, 1) := dk_42 (dk_at dksX3_turns_0 19 rfl rfl)
theorem dX3_turns_20 : decode cX3_turns 20 = .ok (.getfield 7, 3) := dk_180 0 7 (dk_at dksX3_turns_0 20 rfl rfl)
theorem dX3_turns_23 : decode cX3_turns 23 = .ok (.iconst 5, 1) := dk_8 (dk_at dksX3_turns_0 23 rfl rfl)
theorem dX3_turns_24 : decode cX3_turns 24 = .ok (.dup2, 1) := dk_92 (dk_at dksX3_turns_1 0 rfl rfl)
theorem dX3_turns_25 : decode cX3_turns 25 = .ok (.iaload, 1) := dk_46 (dk_at dksX3_turns_1 1 rfl rfl)
theorem dX3_turns_26 : decode cX3_turns 26 = .ok (.iload_n 2, 1) := dk_28 (dk_at dksX3_turns_1 2 rfl rfl)
theorem dX3_turns_27 : decode cX3_turns 27 = .ok (.ifCond .ge 8, 3) := dk_156 0 8 (dk_at dksX3_turns_1 3 rfl rfl)
theorem dX3_turns_30 : decode cX3_turns 30 = .ok (.iload_n 2, 1) := dk_28 (dk_at dksX3_turns_1 6 rfl rfl)
theorem dX3_turns_31 : decode cX3_turns 31 = .ok (.ineg, 1) := dk_116 (dk_at dksX3_turns_1 7 rfl rfl)
theorem dX3_turns_32 : decode cX3_turns 32 = .ok (.goto 4, 3) := dk_167 0 4 (dk_at dksX3_turns_1 8 rfl rfl)
theorem dX3_turns_35 : decode cX3_turns 35 = .ok (.iconst 0, 1) := dk_3 (dk_at dksX3_turns_1 11 rfl rfl)
theorem dX3_turns_36 : decode cX3_turns 36 = .ok (.iadd, 1) := dk_96 (dk_at dksX3_turns_1 12 rfl rfl)
theorem dX3_turns_37 : decode cX3_turns 37 = .ok (.iastore, 1) := dk_79 (dk_at dksX3_turns_1 13 rfl rfl)
theorem dX3_turns_38 : decode cX3_turns 38 = .ok (.aload_n 0, 1) := dk_42 (dk_at dksX3_turns_1 14 rfl rfl)
theorem dX3_turns_39 : decode cX3_turns 39 = .ok (.getfield 7, 3) := dk_180 0 7 (dk_at dksX3_turns_1 15 rfl rfl)
theorem dX3_turns_42 : decode cX3_turns 42 = .ok (.bipush 6, 2) := dk_16 6 (dk_at dksX3_turns_1 18 rfl rfl)
theorem dX3_turns_44 : decode cX3_turns 44 = .ok (.dup2, 1) := dk_92 (dk_at dksX3_turns_1 20 rfl rfl)
theorem dX3_turns_45 : decode cX3_turns 45 = .ok (.iaload, 1) := dk_46 (dk_at dksX3_turns_1 21 rfl rfl)
theorem dX3_turns_46 : decode cX3_turns 46 = .ok (.iload_n 2, 1) := dk_28 (dk_at dksX3_turns_1 22 rfl rfl)
theorem dX3_turns_47 : decode cX3_turns 47 = .ok (.bipush 6, 2) := dk_16 6 (dk_at dksX3_turns_2 0 rfl rfl)
theorem dX3_turns_49 : decode cX3_turns 49 = .ok (.if_icmp .gt 9, 3) := dk_163 0 9 (dk_at dksX3_turns_2 2 rfl rfl)
theorem dX3_turns_52 : decode cX3_turns 52 = .ok (.iload_n 2, 1) := dk_28 (dk_at dksX3_turns_2 5 rfl rfl)
theorem dX3_turns_53 : decode cX3_turns 53 = .ok (.bipush (-5), 2) := dk_16 251 (dk_at dksX3_turns_2 6 rfl rfl)
theorem dX3_turns_55 : decode cX3_turns 55 = .ok (.if_icmp .ge 7, 3) := dk_162 0 7 (dk_at dksX3_turns_2 8 rfl rfl)
theorem dX3_turns_58 : decode cX3_turns 58 = .ok (.iconst 1, 1) := dk_4 (dk_at dksX3_turns_2 11 rfl rfl)
theorem dX3_turns_59 : decode cX3_turns 59 = .ok (.goto 4, 3) := dk_167 0 4 (dk_at dksX3_turns_2 12 rfl rfl)
theorem dX3_turns_62 : decode cX3_turns 62 = .ok (.iconst 0, 1) := dk_3 (dk_at dksX3_turns_2 15 rfl rfl)
theorem dX3_turns_63 : decode cX3_turns 63 = .ok (.iadd, 1) := dk_96 (dk_at dksX3_turns_2 16 rfl rfl)
theorem dX3_turns_64 : decode cX3_turns 64 = .ok (.iastore, 1) := dk_79 (dk_at dksX3_turns_2 17 rfl rfl)
theorem dX3_turns_65 : decode cX3_turns 65 = .ok (.aload_n 0, 1) := dk_42 (dk_at dksX3_turns_2 18 rfl rfl)
theorem dX3_turns_66 : decode cX3_turns 66 = .ok (.getfield 7, 3) := dk_180 0 7 (dk_at dksX3_turns_2 19 rfl rfl)
theorem dX3_turns_69 : decode cX3_turns 69 = .ok (.iconst 3, 1) := dk_6 (dk_at dksX3_turns_2 22 rfl rfl)
theorem dX3_turns_70 : decode cX3_turns 70 = .ok (.iload_n 1, 1) := dk_27 (dk_at dksX3_turns_2 23 rfl rfl)
theorem dX3_turns_71 : decode cX3_turns 71 = .ok (.iastore, 1) := dk_79 (dk_at dksX3_turns_3 0 rfl rfl)
theorem dX3_turns_72 : decode cX3_turns 72 = .ok (.return_, 1) := dk_177 (dk_at dksX3_turns_3 1 rfl rfl)
abbrev cX3_turn : ByteArray := prog_8_method_34_code
def yX3_turn : MethodName := ⟨RX3, "turn", "(I)I"⟩
def dkwX3_turn_1 : List UInt8 := [28, 16, 99, 160, 0, 9, 42, 5, 182, 0, 121, 172, 42, 182, 0, 131, 42, 27, 182, 0, 76, 28, 172]
abbrev dktX3_turn_1 : List UInt8 := dkwX3_turn_1 ++ []
def dkwX3_turn_0 : List UInt8 := [42, 3, 181, 0, 38, 27, 184, 0, 117, 154, 0, 9, 42, 4, 182, 0, 121, 172, 42, 27, 182, 0, 64, 61]
abbrev dktX3_turn_0 : List UInt8 := dkwX3_turn_0 ++ dktX3_turn_1
theorem dksX3_turn_0 : cX3_turn.data.toList.drop 0 = dktX3_turn_0 := by decide +kernel
theorem dksX3_turn_1 : cX3_turn.data.toList.drop 24 = dktX3_turn_1 := dk_seg dksX3_turn_0 24 rfl rfl
theorem dX3_turn_0 : decode cX3_turn 0 = .ok (.aload_n 0, 1) := dk_42 (dk_at dksX3_turn_0 0 rfl rfl)
theorem dX3_turn_1 : decode cX3_turn 1 = .ok (.iconst 0, 1) := dk_3 (dk_at dksX3_turn_0 1 rfl rfl)
theorem dX3_turn_2 : decode cX3_turn 2 = .ok (.putfield 38, 3) := dk_181 0 38 (dk_at dksX3_turn_0 2 rfl rfl)
theorem dX3_turn_5 : decode cX3_turn 5 = .ok (.iload_n 1, 1) := dk_27 (dk_at dksX3_turn_0 5 rfl rfl)
theorem dX3_turn_6 : decode cX3_turn 6 = .ok (.invokestatic 117, 3) := dk_184 0 117 (dk_at dksX3_turn_0 6 rfl rfl)
theorem dX3_turn_9 : decode cX3_turn 9 = .ok (.ifCond .ne 9, 3) := dk_154 0 9 (dk_at dksX3_turn_0 9 rfl rfl)
theorem dX3_turn_12 : decode cX3_turn 12 = .ok (.aload_n 0, 1) := dk_42 (dk_at dksX3_turn_0 12 rfl rfl)
theorem dX3_turn_13 : decode cX3_turn 13 = .ok (.iconst 1, 1) := dk_4 (dk_at dksX3_turn_0 13 rfl rfl)
theorem dX3_turn_14 : decode cX3_turn 14 = .ok (.invokevirtual 121, 3) := dk_182 0 121 (dk_at dksX3_turn_0 14 rfl rfl)
theorem dX3_turn_17 : decode cX3_turn 17 = .ok (.ireturn, 1) := dk_172 (dk_at dksX3_turn_0 17 rfl rfl)
theorem dX3_turn_18 : decode cX3_turn 18 = .ok (.aload_n 0, 1) := dk_42 (dk_at dksX3_turn_0 18 rfl rfl)
theorem dX3_turn_19 : decode cX3_turn 19 = .ok (.iload_n 1, 1) := dk_27 (dk_at dksX3_turn_0 19 rfl rfl)
theorem dX3_turn_20 : decode cX3_turn 20 = .ok (.invokevirtual 64, 3) := dk_182 0 64 (dk_at dksX3_turn_0 20 rfl rfl)
theorem dX3_turn_23 : decode cX3_turn 23 = .ok (.istore_n 2, 1) := dk_61 (dk_at dksX3_turn_0 23 rfl rfl)
theorem dX3_turn_24 : decode cX3_turn 24 = .ok (.iload_n 2, 1) := dk_28 (dk_at dksX3_turn_1 0 rfl rfl)
theorem dX3_turn_25 : decode cX3_turn 25 = .ok (.bipush 99, 2) := dk_16 99 (dk_at dksX3_turn_1 1 rfl rfl)
theorem dX3_turn_27 : decode cX3_turn 27 = .ok (.if_icmp .ne 9, 3) := dk_160 0 9 (dk_at dksX3_turn_1 3 rfl rfl)
theorem dX3_turn_30 : decode cX3_turn 30 = .ok (.aload_n 0, 1) := dk_42 (dk_at dksX3_turn_1 6 rfl rfl)
theorem dX3_turn_31 : decode cX3_turn 31 = .ok (.iconst 2, 1) := dk_5 (dk_at dksX3_turn_1 7 rfl rfl)
theorem dX3_turn_32 : decode cX3_turn 32 = .ok (.invokevirtual 121, 3) := dk_182 0 121 (dk_at dksX3_turn_1 8 rfl rfl)
theorem dX3_turn_35 : decode cX3_turn 35 = .ok (.ireturn, 1) := dk_172 (dk_at dksX3_turn_1 11 rfl rfl)
theorem dX3_turn_36 : decode cX3_turn 36 = .ok (.aload_n 0, 1) := dk_42 (dk_at dksX3_turn_1 12 rfl rfl)
theorem dX3_turn_37 : decode cX3_turn 37 = .ok (.invokevirtual 131, 3) := dk_182 0 131 (dk_at dksX3_turn_1 13 rfl rfl)
theorem dX3_turn_40 : decode cX3_turn 40 = .ok (.aload_n 0, 1) := dk_42 (dk_at dksX3_turn_1 16 rfl rfl)
theorem dX3_turn_41 : decode cX3_turn 41 = .ok (.iload_n 1, 1) := dk_27 (dk_at dksX3_turn_1 17 rfl rfl)
theorem dX3_turn_42 : decode cX3_turn 42 = .ok (.invokevirtual 76, 3) := dk_182 0 76 (dk_at dksX3_turn_1 18 rfl rfl)
theorem dX3_turn_45 : decode cX3_turn 45 = .ok (.iload_n 2, 1) := dk_28 (dk_at dksX3_turn_1 21 rfl rfl)
theorem dX3_turn_46 : decode cX3_turn 46 = .ok (.ireturn, 1) := dk_172 (dk_at dksX3_turn_1 22 rfl rfl)
abbrev cX3_jam : ByteArray := prog_8_method_35_code
def yX3_jam : MethodName := ⟨RX3, "jam", "(IZ)I"⟩
def dkwX3_jam_2 : List UInt8 := [167, 0, 4, 3, 79, 29, 172]
abbrev dktX3_jam_2 : List UInt8 := dkwX3_jam_2 ++ []
def dkwX3_jam_1 : List UInt8 := [180, 0, 7, 16, 10, 27, 96, 46, 62, 42, 180, 0, 7, 16, 10, 27, 96, 28, 153, 0, 7, 4]
abbrev dktX3_jam_1 : List UInt8 := dkwX3_jam_1 ++ dktX3_jam_2
def dkwX3_jam_0 : List UInt8 := [42, 3, 181, 0, 38, 27, 184, 0, 117, 154, 0, 9, 42, 4, 182, 0, 121, 172, 42, 182, 0, 131, 42]
abbrev dktX3_jam_0 : List UInt8 := dkwX3_jam_0 ++ dktX3_jam_1
theorem dksX3_jam_0 : cX3_jam.data.toList.drop 0 = dktX3_jam_0 := by decide +kernel
theorem dksX3_jam_1 : cX3_jam.data.toList.drop 23 = dktX3_jam_1 := dk_seg dksX3_jam_0 23 rfl rfl
theorem dksX3_jam_2 : cX3_jam.data.toList.drop 45 = dktX3_jam_2 := dk_seg dksX3_jam_1 22 rfl rfl
theorem dX3_jam_0 : decode cX3_jam 0 = .ok (.aload_n 0, 1) := dk_42 (dk_at dksX3_jam_0 0 rfl rfl)
theorem dX3_jam_1 : decode cX3_jam 1 = .ok (.iconst 0, 1) := dk_3 (dk_at dksX3_jam_0 1 rfl rfl)
theorem dX3_jam_2 : decode cX3_jam 2 = .ok (.putfield 38, 3) := dk_181 0 38 (dk_at dksX3_jam_0 2 rfl rfl)
theorem dX3_jam_5 : decode cX3_jam 5 = .ok (.iload_n 1, 1) := dk_27 (dk_at dksX3_jam_0 5 rfl rfl)
theorem dX3_jam_6 : decode cX3_jam 6 = .ok (.invokestatic 117, 3) := dk_184 0 117 (dk_at dksX3_jam_0 6 rfl rfl)
theorem dX3_jam_9 : decode cX3_jam 9 = .ok (.ifCond .ne 9, 3) := dk_154 0 9 (dk_at dksX3_jam_0 9 rfl rfl)
theorem dX3_jam_12 : decode cX3_jam 12 = .ok (.aload_n 0, 1) := dk_42 (dk_at dksX3_jam_0 12 rfl rfl)
theorem dX3_jam_13 : decode cX3_jam 13 = .ok (.iconst 1, 1) := dk_4 (dk_at dksX3_jam_0 13 rfl rfl)
theorem dX3_jam_14 : decode cX3_jam 14 = .ok (.invokevirtual 121, 3) := dk_182 0 121 (dk_at dksX3_jam_0 14 rfl rfl)
theorem dX3_jam_17 : decode cX3_jam 17 = .ok (.ireturn, 1) := dk_172 (dk_at dksX3_jam_0 17 rfl rfl)
theorem dX3_jam_18 : decode cX3_jam 18 = .ok (.aload_n 0, 1) := dk_42 (dk_at dksX3_jam_0 18 rfl rfl)
theorem dX3_jam_19 : decode cX3_jam 19 = .ok (.invokevirtual 131, 3) := dk_182 0 131 (dk_at dksX3_jam_0 19 rfl rfl)
theorem dX3_jam_22 : decode cX3_jam 22 = .ok (.aload_n 0, 1) := dk_42 (dk_at dksX3_jam_0 22 rfl rfl)
theorem dX3_jam_23 : decode cX3_jam 23 = .ok (.getfield 7, 3) := dk_180 0 7 (dk_at dksX3_jam_1 0 rfl rfl)
theorem dX3_jam_26 : decode cX3_jam 26 = .ok (.bipush 10, 2) := dk_16 10 (dk_at dksX3_jam_1 3 rfl rfl)
theorem dX3_jam_28 : decode cX3_jam 28 = .ok (.iload_n 1, 1) := dk_27 (dk_at dksX3_jam_1 5 rfl rfl)
theorem dX3_jam_29 : decode cX3_jam 29 = .ok (.iadd, 1) := dk_96 (dk_at dksX3_jam_1 6 rfl rfl)
theorem dX3_jam_30 : decode cX3_jam 30 = .ok (.iaload, 1) := dk_46 (dk_at dksX3_jam_1 7 rfl rfl)
theorem dX3_jam_31 : decode cX3_jam 31 = .ok (.istore_n 3, 1) := dk_62 (dk_at dksX3_jam_1 8 rfl rfl)
theorem dX3_jam_32 : decode cX3_jam 32 = .ok (.aload_n 0, 1) := dk_42 (dk_at dksX3_jam_1 9 rfl rfl)
theorem dX3_jam_33 : decode cX3_jam 33 = .ok (.getfield 7, 3) := dk_180 0 7 (dk_at dksX3_jam_1 10 rfl rfl)
theorem dX3_jam_36 : decode cX3_jam 36 = .ok (.bipush 10, 2) := dk_16 10 (dk_at dksX3_jam_1 13 rfl rfl)
theorem dX3_jam_38 : decode cX3_jam 38 = .ok (.iload_n 1, 1) := dk_27 (dk_at dksX3_jam_1 15 rfl rfl)
theorem dX3_jam_39 : decode cX3_jam 39 = .ok (.iadd, 1) := dk_96 (dk_at dksX3_jam_1 16 rfl rfl)
theorem dX3_jam_40 : decode cX3_jam 40 = .ok (.iload_n 2, 1) := dk_28 (dk_at dksX3_jam_1 17 rfl rfl)
theorem dX3_jam_41 : decode cX3_jam 41 = .ok (.ifCond .eq 7, 3) := dk_153 0 7 (dk_at dksX3_jam_1 18 rfl rfl)
theorem dX3_jam_44 : decode cX3_jam 44 = .ok (.iconst 1, 1) := dk_4 (dk_at dksX3_jam_1 21 rfl rfl)
theorem dX3_jam_45 : decode cX3_jam 45 = .ok (.goto 4, 3) := dk_167 0 4 (dk_at dksX3_jam_2 0 rfl rfl)
theorem dX3_jam_48 : decode cX3_jam 48 = .ok (.iconst 0, 1) := dk_3 (dk_at dksX3_jam_2 3 rfl rfl)
theorem dX3_jam_49 : decode cX3_jam 49 = .ok (.iastore, 1) := dk_79 (dk_at dksX3_jam_2 4 rfl rfl)
theorem dX3_jam_50 : decode cX3_jam 50 = .ok (.iload_n 3, 1) := dk_29 (dk_at dksX3_jam_2 5 rfl rfl)
theorem dX3_jam_51 : decode cX3_jam 51 = .ok (.ireturn, 1) := dk_172 (dk_at dksX3_jam_2 6 rfl rfl)
abbrev cX3_set : ByteArray := prog_8_method_37_code
def yX3_set : MethodName := ⟨RX3, "set", "(II)I"⟩
def dkwX3_set_4 : List UInt8 := [180, 0, 7, 27, 46, 54, 4, 42, 180, 0, 7, 27, 28, 79, 21, 4, 172]
abbrev dktX3_set_4 : List UInt8 := dkwX3_set_4 ++ []
def dkwX3_set_3 : List UInt8 := [160, 0, 17, 28, 42, 182, 0, 134, 162, 0, 9, 42, 6, 182, 0, 121, 172, 42, 182, 0, 131, 42]
abbrev dktX3_set_3 : List UInt8 := dkwX3_set_3 ++ dktX3_set_4
def dkwX3_set_2 : List UInt8 := [167, 0, 9, 28, 3, 5, 184, 0, 42, 62, 29, 154, 0, 9, 42, 5, 182, 0, 121, 172, 27, 4]
abbrev dktX3_set_2 : List UInt8 := dkwX3_set_2 ++ dktX3_set_3
def dkwX3_set_1 : List UInt8 := [28, 3, 17, 1, 44, 184, 0, 42, 167, 0, 25, 27, 4, 160, 0, 14, 28, 16, 10, 16, 100, 184, 0, 42]
abbrev dktX3_set_1 : List UInt8 := dkwX3_set_1 ++ dktX3_set_2
def dkwX3_set_0 : List UInt8 := [42, 3, 181, 0, 38, 27, 3, 5, 184, 0, 42, 154, 0, 9, 42, 4, 182, 0, 121, 172, 27, 154, 0, 14]
abbrev dktX3_set_0 : List UInt8 := dkwX3_set_0 ++ dktX3_set_1
theorem dksX3_set_0 : cX3_set.data.toList.drop 0 = dktX3_set_0 := by decide +kernel
theorem dksX3_set_1 : cX3_set.data.toList.drop 24 = dktX3_set_1 := dk_seg dksX3_set_0 24 rfl rfl
theorem dksX3_set_2 : cX3_set.data.toList.drop 48 = dktX3_set_2 := dk_seg dksX3_set_1 24 rfl rfl
theorem dksX3_set_3 : cX3_set.data.toList.drop 70 = dktX3_set_3 := dk_seg dksX3_set_2 22 rfl rfl
theorem dksX3_set_4 : cX3_set.data.toList.drop 92 = dktX3_set_4 := dk_seg dksX3_set_3 22 rfl rfl
theorem dX3_set_0 : decode cX3_set 0 = .ok (.aload_n 0, 1) := dk_42 (dk_at dksX3_set_0 0 rfl rfl)
theorem dX3_set_1 : decode cX3_set 1 = .ok (.iconst 0, 1) := dk_3 (dk_at dksX3_set_0 1 rfl rfl)
theorem dX3_set_2 : decode cX3_set 2 = .ok (.putfield 38, 3) := dk_181 0 38 (dk_at dksX3_set_0 2 rfl rfl)
theorem dX3_set_5 : decode cX3_set 5 = .ok (.iload_n 1, 1) := dk_27 (dk_at dksX3_set_0 5 rfl rfl)
theorem dX3_set_6 : decode cX3_set 6 = .ok (.iconst 0, 1) := dk_3 (dk_at dksX3_set_0 6 rfl rfl)
theorem dX3_set_7 : decode cX3_set 7 = .ok (.iconst 2, 1) := dk_5 (dk_at dksX3_set_0 7 rfl rfl)
theorem dX3_set_8 : decode cX3_set 8 = .ok (.invokestatic 42, 3) := dk_184 0 42 (dk_at dksX3_set_0 8 rfl rfl)
theorem dX3_set_11 : decode cX3_set 11 = .ok (.ifCond .ne 9, 3) := dk_154 0 9 (dk_at dksX3_set_0 11 rfl rfl)
theorem dX3_set_14 : decode cX3_set 14 = .ok (.aload_n 0, 1) := dk_42 (dk_at dksX3_set_0 14 rfl rfl)
theorem dX3_set_15 : decode cX3_set 15 = .ok (.iconst 1, 1) := dk_4 (dk_at dksX3_set_0 15 rfl rfl)
theorem dX3_set_16 : decode cX3_set 16 = .ok (.invokevirtual 121, 3) := dk_182 0 121 (dk_at dksX3_set_0 16 rfl rfl)
theorem dX3_set_19 : decode cX3_set 19 = .ok (.ireturn, 1) := dk_172 (dk_at dksX3_set_0 19 rfl rfl)
theorem dX3_set_20 : decode cX3_set 20 = .ok (.iload_n 1, 1) := dk_27 (dk_at dksX3_set_0 20 rfl rfl)
theorem dX3_set_21 : decode cX3_set 21 = .ok (.ifCond .ne 14, 3) := dk_154 0 14 (dk_at dksX3_set_0 21 rfl rfl)
theorem dX3_set_24 : decode cX3_set 24 = .ok (.iload_n 2, 1) := dk_28 (dk_at dksX3_set_1 0 rfl rfl)
theorem dX3_set_25 : decode cX3_set 25 = .ok (.iconst 0, 1) := dk_3 (dk_at dksX3_set_1 1 rfl rfl)
theorem dX3_set_26 : decode cX3_set 26 = .ok (.sipush 300, 3) := dk_17 1 44 (dk_at dksX3_set_1 2 rfl rfl)
theorem dX3_set_29 : decode cX3_set 29 = .ok (.invokestatic 42, 3) := dk_184 0 42 (dk_at dksX3_set_1 5 rfl rfl)
theorem dX3_set_32 : decode cX3_set 32 = .ok (.goto 25, 3) := dk_167 0 25 (dk_at dksX3_set_1 8 rfl rfl)
theorem dX3_set_35 : decode cX3_set 35 = .ok (.iload_n 1, 1) := dk_27 (dk_at dksX3_set_1 11 rfl rfl)
theorem dX3_set_36 : decode cX3_set 36 = .ok (.iconst 1, 1) := dk_4 (dk_at dksX3_set_1 12 rfl rfl)
theorem dX3_set_37 : decode cX3_set 37 = .ok (.if_icmp .ne 14, 3) := dk_160 0 14 (dk_at dksX3_set_1 13 rfl rfl)
theorem dX3_set_40 : decode cX3_set 40 = .ok (.iload_n 2, 1) := dk_28 (dk_at dksX3_set_1 16 rfl rfl)
theorem dX3_set_41 : decode cX3_set 41 = .ok (.bipush 10, 2) := dk_16 10 (dk_at dksX3_set_1 17 rfl rfl)
theorem dX3_set_43 : decode cX3_set 43 = .ok (.bipush 100, 2) := dk_16 100 (dk_at dksX3_set_1 19 rfl rfl)
theorem dX3_set_45 : decode cX3_set 45 = .ok (.invokestatic 42, 3) := dk_184 0 42 (dk_at dksX3_set_1 21 rfl rfl)
theorem dX3_set_48 : decode cX3_set 48 = .ok (.goto 9, 3) := dk_167 0 9 (dk_at dksX3_set_2 0 rfl rfl)
theorem dX3_set_51 : decode cX3_set 51 = .ok (.iload_n 2, 1) := dk_28 (dk_at dksX3_set_2 3 rfl rfl)
theorem dX3_set_52 : decode cX3_set 52 = .ok (.iconst 0, 1) := dk_3 (dk_at dksX3_set_2 4 rfl rfl)
theorem dX3_set_53 : decode cX3_set 53 = .ok (.iconst 2, 1) := dk_5 (dk_at dksX3_set_2 5 rfl rfl)
theorem dX3_set_54 : decode cX3_set 54 = .ok (.invokestatic 42, 3) := dk_184 0 42 (dk_at dksX3_set_2 6 rfl rfl)
theorem dX3_set_57 : decode cX3_set 57 = .ok (.istore_n 3, 1) := dk_62 (dk_at dksX3_set_2 9 rfl rfl)
theorem dX3_set_58 : decode cX3_set 58 = .ok (.iload_n 3, 1) := dk_29 (dk_at dksX3_set_2 10 rfl rfl)
theorem dX3_set_59 : decode cX3_set 59 = .ok (.ifCond .ne 9, 3) := dk_154 0 9 (dk_at dksX3_set_2 11 rfl rfl)
theorem dX3_set_62 : decode cX3_set 62 = .ok (.aload_n 0, 1) := dk_42 (dk_at dksX3_set_2 14 rfl rfl)
theorem dX3_set_63 : decode cX3_set 63 = .ok (.iconst 2, 1) := dk_5 (dk_at dksX3_set_2 15 rfl rfl)
theorem dX3_set_64 : decode cX3_set 64 = .ok (.invokevirtual 121, 3) := dk_182 0 121 (dk_at dksX3_set_2 16 rfl rfl)
theorem dX3_set_67 : decode cX3_set 67 = .ok (.ireturn, 1) := dk_172 (dk_at dksX3_set_2 19 rfl rfl)
theorem dX3_set_68 : decode cX3_set 68 = .ok (.iload_n 1, 1) := dk_27 (dk_at dksX3_set_2 20 rfl rfl)
theorem dX3_set_69 : decode cX3_set 69 = .ok (.iconst 1, 1) := dk_4 (dk_at dksX3_set_2 21 rfl rfl)
theorem dX3_set_70 : decode cX3_set 70 = .ok (.if_icmp .ne 17, 3) := dk_160 0 17 (dk_at dksX3_set_3 0 rfl rfl)
theorem dX3_set_73 : decode cX3_set 73 = .ok (.iload_n 2, 1) := dk_28 (dk_at dksX3_set_3 3 rfl rfl)
theorem dX3_set_74 : decode cX3_set 74 = .ok (.aload_n 0, 1) := dk_42 (dk_at dksX3_set_3 4 rfl rfl)
theorem dX3_set_75 : decode cX3_set 75 = .ok (.invokevirtual 134, 3) := dk_182 0 134 (dk_at dksX3_set_3 5 rfl rfl)
theorem dX3_set_78 : decode cX3_set 78 = .ok (.if_icmp .ge 9, 3) := dk_162 0 9 (dk_at dksX3_set_3 8 rfl rfl)
theorem dX3_set_81 : decode cX3_set 81 = .ok (.aload_n 0, 1) := dk_42 (dk_at dksX3_set_3 11 rfl rfl)
theorem dX3_set_82 : decode cX3_set 82 = .ok (.iconst 3, 1) := dk_6 (dk_at dksX3_set_3 12 rfl rfl)
theorem dX3_set_83 : decode cX3_set 83 = .ok (.invokevirtual 121, 3) := dk_182 0 121 (dk_at dksX3_set_3 13 rfl rfl)
theorem dX3_set_86 : decode cX3_set 86 = .ok (.ireturn, 1) := dk_172 (dk_at dksX3_set_3 16 rfl rfl)
theorem dX3_set_87 : decode cX3_set 87 = .ok (.aload_n 0, 1) := dk_42 (dk_at dksX3_set_3 17 rfl rfl)
theorem dX3_set_88 : decode cX3_set 88 = .ok (.invokevirtual 131, 3) := dk_182 0 131 (dk_at dksX3_set_3 18 rfl rfl)
theorem dX3_set_91 : decode cX3_set 91 = .ok (.aload_n 0, 1) := dk_42 (dk_at dksX3_set_3 21 rfl rfl)
theorem dX3_set_92 : decode cX3_set 92 = .ok (.getfield 7, 3) := dk_180 0 7 (dk_at dksX3_set_4 0 rfl rfl)
theorem dX3_set_95 : decode cX3_set 95 = .ok (.iload_n 1, 1) := dk_27 (dk_at dksX3_set_4 3 rfl rfl)
theorem dX3_set_96 : decode cX3_set 96 = .ok (.iaload, 1) := dk_46 (dk_at dksX3_set_4 4 rfl rfl)
theorem dX3_set_97 : decode cX3_set 97 = .ok (.istore 4, 2) := dk_54 4 (dk_at dksX3_set_4 5 rfl rfl)
theorem dX3_set_99 : decode cX3_set 99 = .ok (.aload_n 0, 1) := dk_42 (dk_at dksX3_set_4 7 rfl rfl)
theorem dX3_set_100 : decode cX3_set 100 = .ok (.getfield 7, 3) := dk_180 0 7 (dk_at dksX3_set_4 8 rfl rfl)
theorem dX3_set_103 : decode cX3_set 103 = .ok (.iload_n 1, 1) := dk_27 (dk_at dksX3_set_4 11 rfl rfl)
theorem dX3_set_104 : decode cX3_set 104 = .ok (.iload_n 2, 1) := dk_28 (dk_at dksX3_set_4 12 rfl rfl)
theorem dX3_set_105 : decode cX3_set 105 = .ok (.iastore, 1) := dk_79 (dk_at dksX3_set_4 13 rfl rfl)
theorem dX3_set_106 : decode cX3_set 106 = .ok (.iload 4, 2) := dk_21 4 (dk_at dksX3_set_4 14 rfl rfl)
theorem dX3_set_108 : decode cX3_set 108 = .ok (.ireturn, 1) := dk_172 (dk_at dksX3_set_4 16 rfl rfl)
abbrev cX3_greatestLoad : ByteArray := prog_8_method_36_code
def yX3_greatestLoad : MethodName := ⟨RX3, "greatestLoad", "()I"⟩
def dkwX3_greatestLoad_1 : List UInt8 := [167, 0, 4, 27, 60, 132, 2, 1, 167, 255, 228, 27, 172]
abbrev dktX3_greatestLoad_1 : List UInt8 := dkwX3_greatestLoad_1 ++ []
def dkwX3_greatestLoad_0 : List UInt8 := [3, 60, 3, 61, 28, 16, 12, 162, 0, 28, 42, 28, 182, 0, 124, 27, 164, 0, 11, 42, 28, 182, 0, 124]
abbrev dktX3_greatestLoad_0 : List UInt8 := dkwX3_greatestLoad_0 ++ dktX3_greatestLoad_1
theorem dksX3_greatestLoad_0 : cX3_greatestLoad.data.toList.drop 0 = dktX3_greatestLoad_0 := by decide +kernel
theorem dksX3_greatestLoad_1 : cX3_greatestLoad.data.toList.drop 24 = dktX3_greatestLoad_1 := dk_seg dksX3_greatestLoad_0 24 rfl rfl
theorem dX3_greatestLoad_0 : decode cX3_greatestLoad 0 = .ok (.iconst 0, 1) := dk_3 (dk_at dksX3_greatestLoad_0 0 rfl rfl)
theorem dX3_greatestLoad_1 : decode cX3_greatestLoad 1 = .ok (.istore_n 1, 1) := dk_60 (dk_at dksX3_greatestLoad_0 1 rfl rfl)
theorem dX3_greatestLoad_2 : decode cX3_greatestLoad 2 = .ok (.iconst 0, 1) := dk_3 (dk_at dksX3_greatestLoad_0 2 rfl rfl)
theorem dX3_greatestLoad_3 : decode cX3_greatestLoad 3 = .ok (.istore_n 2, 1) := dk_61 (dk_at dksX3_greatestLoad_0 3 rfl rfl)
theorem dX3_greatestLoad_4 : decode cX3_greatestLoad 4 = .ok (.iload_n 2, 1) := dk_28 (dk_at dksX3_greatestLoad_0 4 rfl rfl)
theorem dX3_greatestLoad_5 : decode cX3_greatestLoad 5 = .ok (.bipush 12, 2) := dk_16 12 (dk_at dksX3_greatestLoad_0 5 rfl rfl)
theorem dX3_greatestLoad_7 : decode cX3_greatestLoad 7 = .ok (.if_icmp .ge 28, 3) := dk_162 0 28 (dk_at dksX3_greatestLoad_0 7 rfl rfl)
theorem dX3_greatestLoad_10 : decode cX3_greatestLoad 10 = .ok (.aload_n 0, 1) := dk_42 (dk_at dksX3_greatestLoad_0 10 rfl rfl)
theorem dX3_greatestLoad_11 : decode cX3_greatestLoad 11 = .ok (.iload_n 2, 1) := dk_28 (dk_at dksX3_greatestLoad_0 11 rfl rfl)
theorem dX3_greatestLoad_12 : decode cX3_greatestLoad 12 = .ok (.invokevirtual 124, 3) := dk_182 0 124 (dk_at dksX3_greatestLoad_0 12 rfl rfl)
theorem dX3_greatestLoad_15 : decode cX3_greatestLoad 15 = .ok (.iload_n 1, 1) := dk_27 (dk_at dksX3_greatestLoad_0 15 rfl rfl)
theorem dX3_greatestLoad_16 : decode cX3_greatestLoad 16 = .ok (.if_icmp .le 11, 3) := dk_164 0 11 (dk_at dksX3_greatestLoad_0 16 rfl rfl)
theorem dX3_greatestLoad_19 : decode cX3_greatestLoad 19 = .ok (.aload_n 0, 1) := dk_42 (dk_at dksX3_greatestLoad_0 19 rfl rfl)
theorem dX3_greatestLoad_20 : decode cX3_greatestLoad 20 = .ok (.iload_n 2, 1) := dk_28 (dk_at dksX3_greatestLoad_0 20 rfl rfl)
theorem dX3_greatestLoad_21 : decode cX3_greatestLoad 21 = .ok (.invokevirtual 124, 3) := dk_182 0 124 (dk_at dksX3_greatestLoad_0 21 rfl rfl)
theorem dX3_greatestLoad_24 : decode cX3_greatestLoad 24 = .ok (.goto 4, 3) := dk_167 0 4 (dk_at dksX3_greatestLoad_1 0 rfl rfl)
theorem dX3_greatestLoad_27 : decode cX3_greatestLoad 27 = .ok (.iload_n 1, 1) := dk_27 (dk_at dksX3_greatestLoad_1 3 rfl rfl)
theorem dX3_greatestLoad_28 : decode cX3_greatestLoad 28 = .ok (.istore_n 1, 1) := dk_60 (dk_at dksX3_greatestLoad_1 4 rfl rfl)
theorem dX3_greatestLoad_29 : decode cX3_greatestLoad 29 = .ok (.iinc 2 1, 3) := dk_132 2 1 (dk_at dksX3_greatestLoad_1 5 rfl rfl)
theorem dX3_greatestLoad_32 : decode cX3_greatestLoad 32 = .ok (.goto (-28), 3) := dk_167 255 228 (dk_at dksX3_greatestLoad_1 8 rfl rfl)
theorem dX3_greatestLoad_35 : decode cX3_greatestLoad 35 = .ok (.iload_n 1, 1) := dk_27 (dk_at dksX3_greatestLoad_1 11 rfl rfl)
theorem dX3_greatestLoad_36 : decode cX3_greatestLoad 36 = .ok (.ireturn, 1) := dk_172 (dk_at dksX3_greatestLoad_1 12 rfl rfl)
abbrev cX3_append : ByteArray := prog_8_method_38_code
def yX3_append : MethodName := ⟨RX3, "append", "(I)I"⟩
def dkwX3_append_2 : List UInt8 := [42, 89, 180, 0, 137, 4, 96, 181, 0, 137, 42, 180, 0, 137, 172]
abbrev dktX3_append_2 : List UInt8 := dkwX3_append_2 ++ []
def dkwX3_append_1 : List UInt8 := [180, 0, 137, 16, 60, 160, 0, 9, 42, 5, 182, 0, 121, 172, 42, 180, 0, 19, 42, 180, 0, 137, 27, 79]
abbrev dktX3_append_1 : List UInt8 := dkwX3_append_1 ++ dktX3_append_2
def dkwX3_append_0 : List UInt8 := [42, 3, 181, 0, 38, 27, 16, 33, 16, 126, 184, 0, 42, 154, 0, 9, 42, 4, 182, 0, 121, 172, 42]
abbrev dktX3_append_0 : List UInt8 := dkwX3_append_0 ++ dktX3_append_1
theorem dksX3_append_0 : cX3_append.data.toList.drop 0 = dktX3_append_0 := by decide +kernel
theorem dksX3_append_1 : cX3_append.data.toList.drop 23 = dktX3_append_1 := dk_seg dksX3_append_0 23 rfl rfl
theorem dksX3_append_2 : cX3_append.data.toList.drop 47 = dktX3_append_2 := dk_seg dksX3_append_1 24 rfl rfl
theorem dX3_append_0 : decode cX3_append 0 = .ok (.aload_n 0, 1) := dk_42 (dk_at dksX3_append_0 0 rfl rfl)
theorem dX3_append_1 : decode cX3_append 1 = .ok (.iconst 0, 1) := dk_3 (dk_at dksX3_append_0 1 rfl rfl)
theorem dX3_append_2 : decode cX3_append 2 = .ok (.putfield 38, 3) := dk_181 0 38 (dk_at dksX3_append_0 2 rfl rfl)
theorem dX3_append_5 : decode cX3_append 5 = .ok (.iload_n 1, 1) := dk_27 (dk_at dksX3_append_0 5 rfl rfl)
theorem dX3_append_6 : decode cX3_append 6 = .ok (.bipush 33, 2) := dk_16 33 (dk_at dksX3_append_0 6 rfl rfl)
theorem dX3_append_8 : decode cX3_append 8 = .ok (.bipush 126, 2) := dk_16 126 (dk_at dksX3_append_0 8 rfl rfl)
theorem dX3_append_10 : decode cX3_append 10 = .ok (.invokestatic 42, 3) := dk_184 0 42 (dk_at dksX3_append_0 10 rfl rfl)
theorem dX3_append_13 : decode cX3_append 13 = .ok (.ifCond .ne 9, 3) := dk_154 0 9 (dk_at dksX3_append_0 13 rfl rfl)
theorem dX3_append_16 : decode cX3_append 16 = .ok (.aload_n 0, 1) := dk_42 (dk_at dksX3_append_0 16 rfl rfl)
theorem dX3_append_17 : decode cX3_append 17 = .ok (.iconst 1, 1) := dk_4 (dk_at dksX3_append_0 17 rfl rfl)
theorem dX3_append_18 : decode cX3_append 18 = .ok (.invokevirtual 121, 3) := dk_182 0 121 (dk_at dksX3_append_0 18 rfl rfl)
theorem dX3_append_21 : decode cX3_append 21 = .ok (.ireturn, 1) := dk_172 (dk_at dksX3_append_0 21 rfl rfl)
theorem dX3_append_22 : decode cX3_append 22 = .ok (.aload_n 0, 1) := dk_42 (dk_at dksX3_append_0 22 rfl rfl)
theorem dX3_append_23 : decode cX3_append 23 = .ok (.getfield 137, 3) := dk_180 0 137 (dk_at dksX3_append_1 0 rfl rfl)
theorem dX3_append_26 : decode cX3_append 26 = .ok (.bipush 60, 2) := dk_16 60 (dk_at dksX3_append_1 3 rfl rfl)
theorem dX3_append_28 : decode cX3_append 28 = .ok (.if_icmp .ne 9, 3) := dk_160 0 9 (dk_at dksX3_append_1 5 rfl rfl)
theorem dX3_append_31 : decode cX3_append 31 = .ok (.aload_n 0, 1) := dk_42 (dk_at dksX3_append_1 8 rfl rfl)
theorem dX3_append_32 : decode cX3_append 32 = .ok (.iconst 2, 1) := dk_5 (dk_at dksX3_append_1 9 rfl rfl)
theorem dX3_append_33 : decode cX3_append 33 = .ok (.invokevirtual 121, 3) := dk_182 0 121 (dk_at dksX3_append_1 10 rfl rfl)
theorem dX3_append_36 : decode cX3_append 36 = .ok (.ireturn, 1) := dk_172 (dk_at dksX3_append_1 13 rfl rfl)
theorem dX3_append_37 : decode cX3_append 37 = .ok (.aload_n 0, 1) := dk_42 (dk_at dksX3_append_1 14 rfl rfl)
theorem dX3_append_38 : decode cX3_append 38 = .ok (.getfield 19, 3) := dk_180 0 19 (dk_at dksX3_append_1 15 rfl rfl)
theorem dX3_append_41 : decode cX3_append 41 = .ok (.aload_n 0, 1) := dk_42 (dk_at dksX3_append_1 18 rfl rfl)
theorem dX3_append_42 : decode cX3_append 42 = .ok (.getfield 137, 3) := dk_180 0 137 (dk_at dksX3_append_1 19 rfl rfl)
theorem dX3_append_45 : decode cX3_append 45 = .ok (.iload_n 1, 1) := dk_27 (dk_at dksX3_append_1 22 rfl rfl)
theorem dX3_append_46 : decode cX3_append 46 = .ok (.iastore, 1) := dk_79 (dk_at dksX3_append_1 23 rfl rfl)
theorem dX3_append_47 : decode cX3_append 47 = .ok (.aload_n 0, 1) := dk_42 (dk_at dksX3_append_2 0 rfl rfl)
theorem dX3_append_48 : decode cX3_append 48 = .ok (.dup, 1) := dk_89 (dk_at dksX3_append_2 1 rfl rfl)
theorem dX3_append_49 : decode cX3_append 49 = .ok (.getfield 137, 3) := dk_180 0 137 (dk_at dksX3_append_2 2 rfl rfl)
theorem dX3_append_52 : decode cX3_append 52 = .ok (.iconst 1, 1) := dk_4 (dk_at dksX3_append_2 5 rfl rfl)
theorem dX3_append_53 : decode cX3_append 53 = .ok (.iadd, 1) := dk_96 (dk_at dksX3_append_2 6 rfl rfl)
theorem dX3_append_54 : decode cX3_append 54 = .ok (.putfield 137, 3) := dk_181 0 137 (dk_at dksX3_append_2 7 rfl rfl)
theorem dX3_append_57 : decode cX3_append 57 = .ok (.aload_n 0, 1) := dk_42 (dk_at dksX3_append_2 10 rfl rfl)
theorem dX3_append_58 : decode cX3_append 58 = .ok (.getfield 137, 3) := dk_180 0 137 (dk_at dksX3_append_2 11 rfl rfl)
theorem dX3_append_61 : decode cX3_append 61 = .ok (.ireturn, 1) := dk_172 (dk_at dksX3_append_2 14 rfl rfl)
abbrev cX3_clearBuffer : ByteArray := prog_8_method_39_code
def yX3_clearBuffer : MethodName := ⟨RX3, "clearBuffer", "()I"⟩
def dkwX3_clearBuffer_0 : List UInt8 := [42, 3, 181, 0, 38, 42, 180, 0, 137, 60, 42, 3, 181, 0, 137, 27, 172]
abbrev dktX3_clearBuffer_0 : List UInt8 := dkwX3_clearBuffer_0 ++ []
theorem dksX3_clearBuffer_0 : cX3_clearBuffer.data.toList.drop 0 = dktX3_clearBuffer_0 := by decide +kernel
theorem dX3_clearBuffer_0 : decode cX3_clearBuffer 0 = .ok (.aload_n 0, 1) := dk_42 (dk_at dksX3_clearBuffer_0 0 rfl rfl)
theorem dX3_clearBuffer_1 : decode cX3_clearBuffer 1 = .ok (.iconst 0, 1) := dk_3 (dk_at dksX3_clearBuffer_0 1 rfl rfl)
theorem dX3_clearBuffer_2 : decode cX3_clearBuffer 2 = .ok (.putfield 38, 3) := dk_181 0 38 (dk_at dksX3_clearBuffer_0 2 rfl rfl)
theorem dX3_clearBuffer_5 : decode cX3_clearBuffer 5 = .ok (.aload_n 0, 1) := dk_42 (dk_at dksX3_clearBuffer_0 5 rfl rfl)
theorem dX3_clearBuffer_6 : decode cX3_clearBuffer 6 = .ok (.getfield 137, 3) := dk_180 0 137 (dk_at dksX3_clearBuffer_0 6 rfl rfl)
theorem dX3_clearBuffer_9 : decode cX3_clearBuffer 9 = .ok (.istore_n 1, 1) := dk_60 (dk_at dksX3_clearBuffer_0 9 rfl rfl)
theorem dX3_clearBuffer_10 : decode cX3_clearBuffer 10 = .ok (.aload_n 0, 1) := dk_42 (dk_at dksX3_clearBuffer_0 10 rfl rfl)
theorem dX3_clearBuffer_11 : decode cX3_clearBuffer 11 = .ok (.iconst 0, 1) := dk_3 (dk_at dksX3_clearBuffer_0 11 rfl rfl)
theorem dX3_clearBuffer_12 : decode cX3_clearBuffer 12 = .ok (.putfield 137, 3) := dk_181 0 137 (dk_at dksX3_clearBuffer_0 12 rfl rfl)
theorem dX3_clearBuffer_15 : decode cX3_clearBuffer 15 = .ok (.iload_n 1, 1) := dk_27 (dk_at dksX3_clearBuffer_0 15 rfl rfl)
theorem dX3_clearBuffer_16 : decode cX3_clearBuffer 16 = .ok (.ireturn, 1) := dk_172 (dk_at dksX3_clearBuffer_0 16 rfl rfl)
abbrev cX3_firstError : ByteArray := prog_8_method_44_code
def yX3_firstError : MethodName := ⟨RX3, "firstError", "()I"⟩
def dkwX3_firstError_0 : List UInt8 := [42, 3, 181, 0, 38, 42, 182, 0, 156, 42, 180, 0, 140, 172]
abbrev dktX3_firstError_0 : List UInt8 := dkwX3_firstError_0 ++ []
theorem dksX3_firstError_0 : cX3_firstError.data.toList.drop 0 = dktX3_firstError_0 := by decide +kernel
theorem dX3_firstError_0 : decode cX3_firstError 0 = .ok (.aload_n 0, 1) := dk_42 (dk_at dksX3_firstError_0 0 rfl rfl)
theorem dX3_firstError_1 : decode cX3_firstError 1 = .ok (.iconst 0, 1) := dk_3 (dk_at dksX3_firstError_0 1 rfl rfl)
theorem dX3_firstError_2 : decode cX3_firstError 2 = .ok (.putfield 38, 3) := dk_181 0 38 (dk_at dksX3_firstError_0 2 rfl rfl)
theorem dX3_firstError_5 : decode cX3_firstError 5 = .ok (.aload_n 0, 1) := dk_42 (dk_at dksX3_firstError_0 5 rfl rfl)
theorem dX3_firstError_6 : decode cX3_firstError 6 = .ok (.invokevirtual 156, 3) := dk_182 0 156 (dk_at dksX3_firstError_0 6 rfl rfl)
theorem dX3_firstError_9 : decode cX3_firstError 9 = .ok (.aload_n 0, 1) := dk_42 (dk_at dksX3_firstError_0 9 rfl rfl)
theorem dX3_firstError_10 : decode cX3_firstError 10 = .ok (.getfield 140, 3) := dk_180 0 140 (dk_at dksX3_firstError_0 10 rfl rfl)
theorem dX3_firstError_13 : decode cX3_firstError 13 = .ok (.ireturn, 1) := dk_172 (dk_at dksX3_firstError_0 13 rfl rfl)
abbrev cX3_readsAll : ByteArray := prog_8_method_43_code
def yX3_readsAll : MethodName := ⟨RX3, "readsAll", "()V"⟩
def dkwX3_readsAll_4 : List UInt8 := [167, 255, 179, 177]
abbrev dktX3_readsAll_4 : List UInt8 := dkwX3_readsAll_4 ++ []
def dkwX3_readsAll_3 : List UInt8 := [153, 0, 7, 4, 167, 0, 4, 3, 96, 181, 0, 140, 42, 180, 0, 146, 153, 255, 186, 42, 182, 0, 153]
abbrev dktX3_readsAll_3 : List UInt8 := dkwX3_readsAll_3 ++ dktX3_readsAll_4
def dkwX3_readsAll_2 : List UInt8 := [16, 6, 162, 0, 7, 4, 167, 0, 4, 3, 181, 0, 146, 42, 89, 180, 0, 140, 42, 180, 0, 146]
abbrev dktX3_readsAll_2 : List UInt8 := dkwX3_readsAll_2 ++ dktX3_readsAll_3
def dkwX3_readsAll_1 : List UInt8 := [180, 0, 140, 42, 180, 0, 137, 162, 0, 65, 42, 42, 182, 0, 143, 16, 44, 160, 0, 16, 42, 180, 0, 83]
abbrev dktX3_readsAll_1 : List UInt8 := dkwX3_readsAll_1 ++ dktX3_readsAll_2
def dkwX3_readsAll_0 : List UInt8 := [42, 3, 181, 0, 140, 42, 3, 181, 0, 83, 42, 182, 0, 153, 42, 180, 0, 146, 153, 0, 76, 42]
abbrev dktX3_readsAll_0 : List UInt8 := dkwX3_readsAll_0 ++ dktX3_readsAll_1
theorem dksX3_readsAll_0 : cX3_readsAll.data.toList.drop 0 = dktX3_readsAll_0 := by decide +kernel
theorem dksX3_readsAll_1 : cX3_readsAll.data.toList.drop 22 = dktX3_readsAll_1 := dk_seg dksX3_readsAll_0 22 rfl rfl
theorem dksX3_readsAll_2 : cX3_readsAll.data.toList.drop 46 = dktX3_readsAll_2 := dk_seg dksX3_readsAll_1 24 rfl rfl
theorem dksX3_readsAll_3 : cX3_readsAll.data.toList.drop 68 = dktX3_readsAll_3 := dk_seg dksX3_readsAll_2 22 rfl rfl
theorem dksX3_readsAll_4 : cX3_readsAll.data.toList.drop 91 = dktX3_readsAll_4 := dk_seg dksX3_readsAll_3 23 rfl rfl
theorem dX3_readsAll_0 : decode cX3_readsAll 0 = .ok (.aload_n 0, 1) := dk_42 (dk_at dksX3_readsAll_0 0 rfl rfl)
theorem dX3_readsAll_1 : decode cX3_readsAll 1 = .ok (.iconst 0, 1) := dk_3 (dk_at dksX3_readsAll_0 1 rfl rfl)
theorem dX3_readsAll_2 : decode cX3_readsAll 2 = .ok (.putfield 140, 3) := dk_181 0 140 (dk_at dksX3_readsAll_0 2 rfl rfl)
theorem dX3_readsAll_5 : decode cX3_readsAll 5 = .ok (.aload_n 0, 1) := dk_42 (dk_at dksX3_readsAll_0 5 rfl rfl)
theorem dX3_readsAll_6 : decode cX3_readsAll 6 = .ok (.iconst 0, 1) := dk_3 (dk_at dksX3_readsAll_0 6 rfl rfl)
theorem dX3_readsAll_7 : decode cX3_readsAll 7 = .ok (.putfield 83, 3) := dk_181 0 83 (dk_at dksX3_readsAll_0 7 rfl rfl)
theorem dX3_readsAll_10 : decode cX3_readsAll 10 = .ok (.aload_n 0, 1) := dk_42 (dk_at dksX3_readsAll_0 10 rfl rfl)
theorem dX3_readsAll_11 : decode cX3_readsAll 11 = .ok (.invokevirtual 153, 3) := dk_182 0 153 (dk_at dksX3_readsAll_0 11 rfl rfl)
theorem dX3_readsAll_14 : decode cX3_readsAll 14 = .ok (.aload_n 0, 1) := dk_42 (dk_at dksX3_readsAll_0 14 rfl rfl)
theorem dX3_readsAll_15 : decode cX3_readsAll 15 = .ok (.getfield 146, 3) := dk_180 0 146 (dk_at dksX3_readsAll_0 15 rfl rfl)
theorem dX3_readsAll_18 : decode cX3_readsAll 18 = .ok (.ifCond .eq 76, 3) := dk_153 0 76 (dk_at dksX3_readsAll_0 18 rfl rfl)
theorem dX3_readsAll_21 : decode cX3_readsAll 21 = .ok (.aload_n 0, 1) := dk_42 (dk_at dksX3_readsAll_0 21 rfl rfl)
theorem dX3_readsAll_22 : decode cX3_readsAll 22 = .ok (.getfield 140, 3) := dk_180 0 140 (dk_at dksX3_readsAll_1 0 rfl rfl)
theorem dX3_readsAll_25 : decode cX3_readsAll 25 = .ok (.aload_n 0, 1) := dk_42 (dk_at dksX3_readsAll_1 3 rfl rfl)
theorem dX3_readsAll_26 : decode cX3_readsAll 26 = .ok (.getfield 137, 3) := dk_180 0 137 (dk_at dksX3_readsAll_1 4 rfl rfl)
theorem dX3_readsAll_29 : decode cX3_readsAll 29 = .ok (.if_icmp .ge 65, 3) := dk_162 0 65 (dk_at dksX3_readsAll_1 7 rfl rfl)
theorem dX3_readsAll_32 : decode cX3_readsAll 32 = .ok (.aload_n 0, 1) := dk_42 (dk_at dksX3_readsAll_1 10 rfl rfl)
theorem dX3_readsAll_33 : decode cX3_readsAll 33 = .ok (.aload_n 0, 1) := dk_42 (dk_at dksX3_readsAll_1 11 rfl rfl)
theorem dX3_readsAll_34 : decode cX3_readsAll 34 = .ok (.invokevirtual 143, 3) := dk_182 0 143 (dk_at dksX3_readsAll_1 12 rfl rfl)
theorem dX3_readsAll_37 : decode cX3_readsAll 37 = .ok (.bipush 44, 2) := dk_16 44 (dk_at dksX3_readsAll_1 15 rfl rfl)
theorem dX3_readsAll_39 : decode cX3_readsAll 39 = .ok (.if_icmp .ne 16, 3) := dk_160 0 16 (dk_at dksX3_readsAll_1 17 rfl rfl)
theorem dX3_readsAll_42 : decode cX3_readsAll 42 = .ok (.aload_n 0, 1) := dk_42 (dk_at dksX3_readsAll_1 20 rfl rfl)
theorem dX3_readsAll_43 : decode cX3_readsAll 43 = .ok (.getfield 83, 3) := dk_180 0 83 (dk_at dksX3_readsAll_1 21 rfl rfl)
theorem dX3_readsAll_46 : decode cX3_readsAll 46 = .ok (.bipush 6, 2) := dk_16 6 (dk_at dksX3_readsAll_2 0 rfl rfl)
theorem dX3_readsAll_48 : decode cX3_readsAll 48 = .ok (.if_icmp .ge 7, 3) := dk_162 0 7 (dk_at dksX3_readsAll_2 2 rfl rfl)
theorem dX3_readsAll_51 : decode cX3_readsAll 51 = .ok (.iconst 1, 1) := dk_4 (dk_at dksX3_readsAll_2 5 rfl rfl)
theorem dX3_readsAll_52 : decode cX3_readsAll 52 = .ok (.goto 4, 3) := dk_167 0 4 (dk_at dksX3_readsAll_2 6 rfl rfl)
theorem dX3_readsAll_55 : decode cX3_readsAll 55 = .ok (.iconst 0, 1) := dk_3 (dk_at dksX3_readsAll_2 9 rfl rfl)
theorem dX3_readsAll_56 : decode cX3_readsAll 56 = .ok (.putfield 146, 3) := dk_181 0 146 (dk_at dksX3_readsAll_2 10 rfl rfl)
theorem dX3_readsAll_59 : decode cX3_readsAll 59 = .ok (.aload_n 0, 1) := dk_42 (dk_at dksX3_readsAll_2 13 rfl rfl)
theorem dX3_readsAll_60 : decode cX3_readsAll 60 = .ok (.dup, 1) := dk_89 (dk_at dksX3_readsAll_2 14 rfl rfl)
theorem dX3_readsAll_61 : decode cX3_readsAll 61 = .ok (.getfield 140, 3) := dk_180 0 140 (dk_at dksX3_readsAll_2 15 rfl rfl)
theorem dX3_readsAll_64 : decode cX3_readsAll 64 = .ok (.aload_n 0, 1) := dk_42 (dk_at dksX3_readsAll_2 18 rfl rfl)
theorem dX3_readsAll_65 : decode cX3_readsAll 65 = .ok (.getfield 146, 3) := dk_180 0 146 (dk_at dksX3_readsAll_2 19 rfl rfl)
theorem dX3_readsAll_68 : decode cX3_readsAll 68 = .ok (.ifCond .eq 7, 3) := dk_153 0 7 (dk_at dksX3_readsAll_3 0 rfl rfl)
theorem dX3_readsAll_71 : decode cX3_readsAll 71 = .ok (.iconst 1, 1) := dk_4 (dk_at dksX3_readsAll_3 3 rfl rfl)
theorem dX3_readsAll_72 : decode cX3_readsAll 72 = .ok (.goto 4, 3) := dk_167 0 4 (dk_at dksX3_readsAll_3 4 rfl rfl)
theorem dX3_readsAll_75 : decode cX3_readsAll 75 = .ok (.iconst 0, 1) := dk_3 (dk_at dksX3_readsAll_3 7 rfl rfl)
theorem dX3_readsAll_76 : decode cX3_readsAll 76 = .ok (.iadd, 1) := dk_96 (dk_at dksX3_readsAll_3 8 rfl rfl)
theorem dX3_readsAll_77 : decode cX3_readsAll 77 = .ok (.putfield 140, 3) := dk_181 0 140 (dk_at dksX3_readsAll_3 9 rfl rfl)
theorem dX3_readsAll_80 : decode cX3_readsAll 80 = .ok (.aload_n 0, 1) := dk_42 (dk_at dksX3_readsAll_3 12 rfl rfl)
theorem dX3_readsAll_81 : decode cX3_readsAll 81 = .ok (.getfield 146, 3) := dk_180 0 146 (dk_at dksX3_readsAll_3 13 rfl rfl)
theorem dX3_readsAll_84 : decode cX3_readsAll 84 = .ok (.ifCond .eq (-70), 3) := dk_153 255 186 (dk_at dksX3_readsAll_3 16 rfl rfl)
theorem dX3_readsAll_87 : decode cX3_readsAll 87 = .ok (.aload_n 0, 1) := dk_42 (dk_at dksX3_readsAll_3 19 rfl rfl)
theorem dX3_readsAll_88 : decode cX3_readsAll 88 = .ok (.invokevirtual 153, 3) := dk_182 0 153 (dk_at dksX3_readsAll_3 20 rfl rfl)
theorem dX3_readsAll_91 : decode cX3_readsAll 91 = .ok (.goto (-77), 3) := dk_167 255 179 (dk_at dksX3_readsAll_4 0 rfl rfl)
theorem dX3_readsAll_94 : decode cX3_readsAll 94 = .ok (.return_, 1) := dk_177 (dk_at dksX3_readsAll_4 3 rfl rfl)
abbrev cX3_readsNumber : ByteArray := prog_8_method_42_code
def yX3_readsNumber : MethodName := ⟨RX3, "readsNumber", "()V"⟩
def dkwX3_readsNumber_7 : List UInt8 := [180, 0, 83, 27, 79, 42, 89, 180, 0, 83, 4, 96, 181, 0, 83, 177]
abbrev dktX3_readsNumber_7 : List UInt8 := dkwX3_readsNumber_7 ++ []
def dkwX3_readsNumber_6 : List UInt8 := [167, 0, 4, 3, 100, 181, 0, 140, 167, 0, 30, 42, 180, 0, 146, 153, 0, 23, 42, 180, 0, 22, 42]
abbrev dktX3_readsNumber_6 : List UInt8 := dkwX3_readsNumber_6 ++ dktX3_readsNumber_7
def dkwX3_readsNumber_5 : List UInt8 := [153, 0, 34, 42, 3, 181, 0, 146, 42, 89, 180, 0, 140, 27, 153, 0, 8, 28, 6, 160, 0, 7, 4]
abbrev dktX3_readsNumber_5 : List UInt8 := dkwX3_readsNumber_5 ++ dktX3_readsNumber_6
def dkwX3_readsNumber_4 : List UInt8 := [4, 96, 181, 0, 140, 132, 2, 1, 167, 255, 200, 42, 180, 0, 146, 153, 0, 42, 42, 27, 182, 0, 150]
abbrev dktX3_readsNumber_4 : List UInt8 := dkwX3_readsNumber_4 ++ dktX3_readsNumber_5
def dkwX3_readsNumber_3 : List UInt8 := [184, 0, 42, 153, 0, 32, 16, 10, 27, 104, 42, 182, 0, 143, 96, 16, 48, 100, 60, 42, 89, 180, 0, 140]
abbrev dktX3_readsNumber_3 : List UInt8 := dkwX3_readsNumber_3 ++ dktX3_readsNumber_4
def dkwX3_readsNumber_2 : List UInt8 := [180, 0, 146, 153, 0, 55, 27, 158, 0, 51, 28, 6, 162, 0, 46, 42, 182, 0, 143, 16, 48, 16, 57]
abbrev dktX3_readsNumber_2 : List UInt8 := dkwX3_readsNumber_2 ++ dktX3_readsNumber_3
def dkwX3_readsNumber_1 : List UInt8 := [89, 180, 0, 140, 42, 180, 0, 146, 153, 0, 7, 4, 167, 0, 4, 3, 96, 181, 0, 140, 4, 61, 42]
abbrev dktX3_readsNumber_1 : List UInt8 := dkwX3_readsNumber_1 ++ dktX3_readsNumber_2
def dkwX3_readsNumber_0 : List UInt8 := [42, 42, 182, 0, 143, 16, 48, 16, 57, 184, 0, 42, 181, 0, 146, 42, 182, 0, 143, 16, 48, 100, 60, 42]
abbrev dktX3_readsNumber_0 : List UInt8 := dkwX3_readsNumber_0 ++ dktX3_readsNumber_1
theorem dksX3_readsNumber_0 : cX3_readsNumber.data.toList.drop 0 = dktX3_readsNumber_0 := by decide +kernel
theorem dksX3_readsNumber_1 : cX3_readsNumber.data.toList.drop 24 = dktX3_readsNumber_1 := dk_seg dksX3_readsNumber_0 24 rfl rfl
theorem dksX3_readsNumber_2 : cX3_readsNumber.data.toList.drop 47 = dktX3_readsNumber_2 := dk_seg dksX3_readsNumber_1 23 rfl rfl
theorem dksX3_readsNumber_3 : cX3_readsNumber.data.toList.drop 70 = dktX3_readsNumber_3 := dk_seg dksX3_readsNumber_2 23 rfl rfl
theorem dksX3_readsNumber_4 : cX3_readsNumber.data.toList.drop 94 = dktX3_readsNumber_4 := dk_seg dksX3_readsNumber_3 24 rfl rfl
theorem dksX3_readsNumber_5 : cX3_readsNumber.data.toList.drop 117 = dktX3_readsNumber_5 := dk_seg dksX3_readsNumber_4 23 rfl rfl
theorem dksX3_readsNumber_6 : cX3_readsNumber.data.toList.drop 140 = dktX3_readsNumber_6 := dk_seg dksX3_readsNumber_5 23 rfl rfl
theorem dksX3_readsNumber_7 : cX3_readsNumber.data.toList.drop 163 = dktX3_readsNumber_7 := dk_seg dksX3_readsNumber_6 23 rfl rfl
theorem dX3_readsNumber_0 : decode cX3_readsNumber 0 = .ok (.aload_n 0, 1) := dk_42 (dk_at dksX3_readsNumber_0 0 rfl rfl)
theorem dX3_readsNumber_1 : decode cX3_readsNumber 1 = .ok (.aload_n 0, 1) := dk_42 (dk_at dksX3_readsNumber_0 1 rfl rfl)
theorem dX3_readsNumber_2 : decode cX3_readsNumber 2 = .ok (.invokevirtual 143, 3) := dk_182 0 143 (dk_at dksX3_readsNumber_0 2 rfl rfl)
theorem dX3_readsNumber_5 : decode cX3_readsNumber 5 = .ok (.bipush 48, 2) := dk_16 48 (dk_at dksX3_readsNumber_0 5 rfl rfl)
theorem dX3_readsNumber_7 : decode cX3_readsNumber 7 = .ok (.bipush 57, 2) := dk_16 57 (dk_at dksX3_readsNumber_0 7 rfl rfl)
theorem dX3_readsNumber_9 : decode cX3_readsNumber 9 = .ok (.invokestatic 42, 3) := dk_184 0 42 (dk_at dksX3_readsNumber_0 9 rfl rfl)
theorem dX3_readsNumber_12 : decode cX3_readsNumber 12 = .ok (.putfield 146, 3) := dk_181 0 146 (dk_at dksX3_readsNumber_0 12 rfl rfl)
theorem dX3_readsNumber_15 : decode cX3_readsNumber 15 = .ok (.aload_n 0, 1) := dk_42 (dk_at dksX3_readsNumber_0 15 rfl rfl)
theorem dX3_readsNumber_16 : decode cX3_readsNumber 16 = .ok (.invokevirtual 143, 3) := dk_182 0 143 (dk_at dksX3_readsNumber_0 16 rfl rfl)
theorem dX3_readsNumber_19 : decode cX3_readsNumber 19 = .ok (.bipush 48, 2) := dk_16 48 (dk_at dksX3_readsNumber_0 19 rfl rfl)
theorem dX3_readsNumber_21 : decode cX3_readsNumber 21 = .ok (.isub, 1) := dk_100 (dk_at dksX3_readsNumber_0 21 rfl rfl)
theorem dX3_readsNumber_22 : decode cX3_readsNumber 22 = .ok (.istore_n 1, 1) := dk_60 (dk_at dksX3_readsNumber_0 22 rfl rfl)
theorem dX3_readsNumber_23 : decode cX3_readsNumber 23 = .ok (.aload_n 0, 1) := dk_42 (dk_at dksX3_readsNumber_0 23 rfl rfl)
theorem dX3_readsNumber_24 : decode cX3_readsNumber 24 = .ok (.dup, 1) := dk_89 (dk_at dksX3_readsNumber_1 0 rfl rfl)
theorem dX3_readsNumber_25 : decode cX3_readsNumber 25 = .ok (.getfield 140, 3) := dk_180 0 140 (dk_at dksX3_readsNumber_1 1 rfl rfl)
theorem dX3_readsNumber_28 : decode cX3_readsNumber 28 = .ok (.aload_n 0, 1) := dk_42 (dk_at dksX3_readsNumber_1 4 rfl rfl)
theorem dX3_readsNumber_29 : decode cX3_readsNumber 29 = .ok (.getfield 146, 3) := dk_180 0 146 (dk_at dksX3_readsNumber_1 5 rfl rfl)
theorem dX3_readsNumber_32 : decode cX3_readsNumber 32 = .ok (.ifCond .eq 7, 3) := dk_153 0 7 (dk_at dksX3_readsNumber_1 8 rfl rfl)
theorem dX3_readsNumber_35 : decode cX3_readsNumber 35 = .ok (.iconst 1, 1) := dk_4 (dk_at dksX3_readsNumber_1 11 rfl rfl)
theorem dX3_readsNumber_36 : decode cX3_readsNumber 36 = .ok (.goto 4, 3) := dk_167 0 4 (dk_at dksX3_readsNumber_1 12 rfl rfl)
theorem dX3_readsNumber_39 : decode cX3_readsNumber 39 = .ok (.iconst 0, 1) := dk_3 (dk_at dksX3_readsNumber_1 15 rfl rfl)
theorem dX3_readsNumber_40 : decode cX3_readsNumber 40 = .ok (.iadd, 1) := dk_96 (dk_at dksX3_readsNumber_1 16 rfl rfl)
theorem dX3_readsNumber_41 : decode cX3_readsNumber 41 = .ok (.putfield 140, 3) := dk_181 0 140 (dk_at dksX3_readsNumber_1 17 rfl rfl)
theorem dX3_readsNumber_44 : decode cX3_readsNumber 44 = .ok (.iconst 1, 1) := dk_4 (dk_at dksX3_readsNumber_1 20 rfl rfl)
theorem dX3_readsNumber_45 : decode cX3_readsNumber 45 = .ok (.istore_n 2, 1) := dk_61 (dk_at dksX3_readsNumber_1 21 rfl rfl)
theorem dX3_readsNumber_46 : decode cX3_readsNumber 46 = .ok (.aload_n 0, 1) := dk_42 (dk_at dksX3_readsNumber_1 22 rfl rfl)
theorem dX3_readsNumber_47 : decode cX3_readsNumber 47 = .ok (.getfield 146, 3) := dk_180 0 146 (dk_at dksX3_readsNumber_2 0 rfl rfl)
theorem dX3_readsNumber_50 : decode cX3_readsNumber 50 = .ok (.ifCond .eq 55, 3) := dk_153 0 55 (dk_at dksX3_readsNumber_2 3 rfl rfl)
theorem dX3_readsNumber_53 : decode cX3_readsNumber 53 = .ok (.iload_n 1, 1) := dk_27 (dk_at dksX3_readsNumber_2 6 rfl rfl)
theorem dX3_readsNumber_54 : decode cX3_readsNumber 54 = .ok (.ifCond .le 51, 3) := dk_158 0 51 (dk_at dksX3_readsNumber_2 7 rfl rfl)
theorem dX3_readsNumber_57 : decode cX3_readsNumber 57 = .ok (.iload_n 2, 1) := dk_28 (dk_at dksX3_readsNumber_2 10 rfl rfl)
theorem dX3_readsNumber_58 : decode cX3_readsNumber 58 = .ok (.iconst 3, 1) := dk_6 (dk_at dksX3_readsNumber_2 11 rfl rfl)
theorem dX3_readsNumber_59 : decode cX3_readsNumber 59 = .ok (.if_icmp .ge 46, 3) := dk_162 0 46 (dk_at dksX3_readsNumber_2 12 rfl rfl)
theorem dX3_readsNumber_62 : decode cX3_readsNumber 62 = .ok (.aload_n 0, 1) := dk_42 (dk_at dksX3_readsNumber_2 15 rfl rfl)
theorem dX3_readsNumber_63 : decode cX3_readsNumber 63 = .ok (.invokevirtual 143, 3) := dk_182 0 143 (dk_at dksX3_readsNumber_2 16 rfl rfl)
theorem dX3_readsNumber_66 : decode cX3_readsNumber 66 = .ok (.bipush 48, 2) := dk_16 48 (dk_at dksX3_readsNumber_2 19 rfl rfl)
theorem dX3_readsNumber_68 : decode cX3_readsNumber 68 = .ok (.bipush 57, 2) := dk_16 57 (dk_at dksX3_readsNumber_2 21 rfl rfl)
theorem dX3_readsNumber_70 : decode cX3_readsNumber 70 = .ok (.invokestatic 42, 3) := dk_184 0 42 (dk_at dksX3_readsNumber_3 0 rfl rfl)
theorem dX3_readsNumber_73 : decode cX3_readsNumber 73 = .ok (.ifCond .eq 32, 3) := dk_153 0 32 (dk_at dksX3_readsNumber_3 3 rfl rfl)
theorem dX3_readsNumber_76 : decode cX3_readsNumber 76 = .ok (.bipush 10, 2) := dk_16 10 (dk_at dksX3_readsNumber_3 6 rfl rfl)
theorem dX3_readsNumber_78 : decode cX3_readsNumber 78 = .ok (.iload_n 1, 1) := dk_27 (dk_at dksX3_readsNumber_3 8 rfl rfl)
theorem dX3_readsNumber_79 : decode cX3_readsNumber 79 = .ok (.imul, 1) := dk_104 (dk_at dksX3_readsNumber_3 9 rfl rfl)
theorem dX3_readsNumber_80 : decode cX3_readsNumber 80 = .ok (.aload_n 0, 1) := dk_42 (dk_at dksX3_readsNumber_3 10 rfl rfl)
theorem dX3_readsNumber_81 : decode cX3_readsNumber 81 = .ok (.invokevirtual 143, 3) := dk_182 0 143 (dk_at dksX3_readsNumber_3 11 rfl rfl)
theorem dX3_readsNumber_84 : decode cX3_readsNumber 84 = .ok (.iadd, 1) := dk_96 (dk_at dksX3_readsNumber_3 14 rfl rfl)
theorem dX3_readsNumber_85 : decode cX3_readsNumber 85 = .ok (.bipush 48, 2) := dk_16 48 (dk_at dksX3_readsNumber_3 15 rfl rfl)
theorem dX3_readsNumber_87 : decode cX3_readsNumber 87 = .ok (.isub, 1) := dk_100 (dk_at dksX3_readsNumber_3 17 rfl rfl)
theorem dX3_readsNumber_88 : decode cX3_readsNumber 88 = .ok (.istore_n 1, 1) := dk_60 (dk_at dksX3_readsNumber_3 18 rfl rfl)
theorem dX3_readsNumber_89 : decode cX3_readsNumber 89 = .ok (.aload_n 0, 1) := dk_42 (dk_at dksX3_readsNumber_3 19 rfl rfl)
theorem dX3_readsNumber_90 : decode cX3_readsNumber 90 = .ok (.dup, 1) := dk_89 (dk_at dksX3_readsNumber_3 20 rfl rfl)
theorem dX3_readsNumber_91 : decode cX3_readsNumber 91 = .ok (.getfield 140, 3) := dk_180 0 140 (dk_at dksX3_readsNumber_3 21 rfl rfl)
theorem dX3_readsNumber_94 : decode cX3_readsNumber 94 = .ok (.iconst 1, 1) := dk_4 (dk_at dksX3_readsNumber_4 0 rfl rfl)
theorem dX3_readsNumber_95 : decode cX3_readsNumber 95 = .ok (.iadd, 1) := dk_96 (dk_at dksX3_readsNumber_4 1 rfl rfl)
theorem dX3_readsNumber_96 : decode cX3_readsNumber 96 = .ok (.putfield 140, 3) := dk_181 0 140 (dk_at dksX3_readsNumber_4 2 rfl rfl)
theorem dX3_readsNumber_99 : decode cX3_readsNumber 99 = .ok (.iinc 2 1, 3) := dk_132 2 1 (dk_at dksX3_readsNumber_4 5 rfl rfl)
theorem dX3_readsNumber_102 : decode cX3_readsNumber 102 = .ok (.goto (-56), 3) := dk_167 255 200 (dk_at dksX3_readsNumber_4 8 rfl rfl)
theorem dX3_readsNumber_105 : decode cX3_readsNumber 105 = .ok (.aload_n 0, 1) := dk_42 (dk_at dksX3_readsNumber_4 11 rfl rfl)
theorem dX3_readsNumber_106 : decode cX3_readsNumber 106 = .ok (.getfield 146, 3) := dk_180 0 146 (dk_at dksX3_readsNumber_4 12 rfl rfl)
theorem dX3_readsNumber_109 : decode cX3_readsNumber 109 = .ok (.ifCond .eq 42, 3) := dk_153 0 42 (dk_at dksX3_readsNumber_4 15 rfl rfl)
theorem dX3_readsNumber_112 : decode cX3_readsNumber 112 = .ok (.aload_n 0, 1) := dk_42 (dk_at dksX3_readsNumber_4 18 rfl rfl)
theorem dX3_readsNumber_113 : decode cX3_readsNumber 113 = .ok (.iload_n 1, 1) := dk_27 (dk_at dksX3_readsNumber_4 19 rfl rfl)
theorem dX3_readsNumber_114 : decode cX3_readsNumber 114 = .ok (.invokevirtual 150, 3) := dk_182 0 150 (dk_at dksX3_readsNumber_4 20 rfl rfl)
theorem dX3_readsNumber_117 : decode cX3_readsNumber 117 = .ok (.ifCond .eq 34, 3) := dk_153 0 34 (dk_at dksX3_readsNumber_5 0 rfl rfl)
theorem dX3_readsNumber_120 : decode cX3_readsNumber 120 = .ok (.aload_n 0, 1) := dk_42 (dk_at dksX3_readsNumber_5 3 rfl rfl)
theorem dX3_readsNumber_121 : decode cX3_readsNumber 121 = .ok (.iconst 0, 1) := dk_3 (dk_at dksX3_readsNumber_5 4 rfl rfl)
theorem dX3_readsNumber_122 : decode cX3_readsNumber 122 = .ok (.putfield 146, 3) := dk_181 0 146 (dk_at dksX3_readsNumber_5 5 rfl rfl)
theorem dX3_readsNumber_125 : decode cX3_readsNumber 125 = .ok (.aload_n 0, 1) := dk_42 (dk_at dksX3_readsNumber_5 8 rfl rfl)
theorem dX3_readsNumber_126 : decode cX3_readsNumber 126 = .ok (.dup, 1) := dk_89 (dk_at dksX3_readsNumber_5 9 rfl rfl)
theorem dX3_readsNumber_127 : decode cX3_readsNumber 127 = .ok (.getfield 140, 3) := dk_180 0 140 (dk_at dksX3_readsNumber_5 10 rfl rfl)
theorem dX3_readsNumber_130 : decode cX3_readsNumber 130 = .ok (.iload_n 1, 1) := dk_27 (dk_at dksX3_readsNumber_5 13 rfl rfl)
theorem dX3_readsNumber_131 : decode cX3_readsNumber 131 = .ok (.ifCond .eq 8, 3) := dk_153 0 8 (dk_at dksX3_readsNumber_5 14 rfl rfl)
theorem dX3_readsNumber_134 : decode cX3_readsNumber 134 = .ok (.iload_n 2, 1) := dk_28 (dk_at dksX3_readsNumber_5 17 rfl rfl)
theorem dX3_readsNumber_135 : decode cX3_readsNumber 135 = .ok (.iconst 3, 1) := dk_6 (dk_at dksX3_readsNumber_5 18 rfl rfl)
theorem dX3_readsNumber_136 : decode cX3_readsNumber 136 = .ok (.if_icmp .ne 7, 3) := dk_160 0 7 (dk_at dksX3_readsNumber_5 19 rfl rfl)
theorem dX3_readsNumber_139 : decode cX3_readsNumber 139 = .ok (.iconst 1, 1) := dk_4 (dk_at dksX3_readsNumber_5 22 rfl rfl)
theorem dX3_readsNumber_140 : decode cX3_readsNumber 140 = .ok (.goto 4, 3) := dk_167 0 4 (dk_at dksX3_readsNumber_6 0 rfl rfl)
theorem dX3_readsNumber_143 : decode cX3_readsNumber 143 = .ok (.iconst 0, 1) := dk_3 (dk_at dksX3_readsNumber_6 3 rfl rfl)
theorem dX3_readsNumber_144 : decode cX3_readsNumber 144 = .ok (.isub, 1) := dk_100 (dk_at dksX3_readsNumber_6 4 rfl rfl)
theorem dX3_readsNumber_145 : decode cX3_readsNumber 145 = .ok (.putfield 140, 3) := dk_181 0 140 (dk_at dksX3_readsNumber_6 5 rfl rfl)
theorem dX3_readsNumber_148 : decode cX3_readsNumber 148 = .ok (.goto 30, 3) := dk_167 0 30 (dk_at dksX3_readsNumber_6 8 rfl rfl)
theorem dX3_readsNumber_151 : decode cX3_readsNumber 151 = .ok (.aload_n 0, 1) := dk_42 (dk_at dksX3_readsNumber_6 11 rfl rfl)
theorem dX3_readsNumber_152 : decode cX3_readsNumber 152 = .ok (.getfield 146, 3) := dk_180 0 146 (dk_at dksX3_readsNumber_6 12 rfl rfl)
theorem dX3_readsNumber_155 : decode cX3_readsNumber 155 = .ok (.ifCond .eq 23, 3) := dk_153 0 23 (dk_at dksX3_readsNumber_6 15 rfl rfl)
theorem dX3_readsNumber_158 : decode cX3_readsNumber 158 = .ok (.aload_n 0, 1) := dk_42 (dk_at dksX3_readsNumber_6 18 rfl rfl)
theorem dX3_readsNumber_159 : decode cX3_readsNumber 159 = .ok (.getfield 22, 3) := dk_180 0 22 (dk_at dksX3_readsNumber_6 19 rfl rfl)
theorem dX3_readsNumber_162 : decode cX3_readsNumber 162 = .ok (.aload_n 0, 1) := dk_42 (dk_at dksX3_readsNumber_6 22 rfl rfl)
theorem dX3_readsNumber_163 : decode cX3_readsNumber 163 = .ok (.getfield 83, 3) := dk_180 0 83 (dk_at dksX3_readsNumber_7 0 rfl rfl)
theorem dX3_readsNumber_166 : decode cX3_readsNumber 166 = .ok (.iload_n 1, 1) := dk_27 (dk_at dksX3_readsNumber_7 3 rfl rfl)
theorem dX3_readsNumber_167 : decode cX3_readsNumber 167 = .ok (.iastore, 1) := dk_79 (dk_at dksX3_readsNumber_7 4 rfl rfl)
theorem dX3_readsNumber_168 : decode cX3_readsNumber 168 = .ok (.aload_n 0, 1) := dk_42 (dk_at dksX3_readsNumber_7 5 rfl rfl)
theorem dX3_readsNumber_169 : decode cX3_readsNumber 169 = .ok (.dup, 1) := dk_89 (dk_at dksX3_readsNumber_7 6 rfl rfl)
theorem dX3_readsNumber_170 : decode cX3_readsNumber 170 = .ok (.getfield 83, 3) := dk_180 0 83 (dk_at dksX3_readsNumber_7 7 rfl rfl)
theorem dX3_readsNumber_173 : decode cX3_readsNumber 173 = .ok (.iconst 1, 1) := dk_4 (dk_at dksX3_readsNumber_7 10 rfl rfl)
theorem dX3_readsNumber_174 : decode cX3_readsNumber 174 = .ok (.iadd, 1) := dk_96 (dk_at dksX3_readsNumber_7 11 rfl rfl)
theorem dX3_readsNumber_175 : decode cX3_readsNumber 175 = .ok (.putfield 83, 3) := dk_181 0 83 (dk_at dksX3_readsNumber_7 12 rfl rfl)
theorem dX3_readsNumber_178 : decode cX3_readsNumber 178 = .ok (.return_, 1) := dk_177 (dk_at dksX3_readsNumber_7 15 rfl rfl)
abbrev cX3_sign : ByteArray := prog_8_method_40_code
def yX3_sign : MethodName := ⟨RX3, "sign", "()I"⟩
def dkwX3_sign_1 : List UInt8 := [172]
abbrev dktX3_sign_1 : List UInt8 := dkwX3_sign_1 ++ []
def dkwX3_sign_0 : List UInt8 := [42, 180, 0, 140, 42, 180, 0, 137, 162, 0, 15, 42, 180, 0, 19, 42, 180, 0, 140, 46, 167, 0, 4, 3]
abbrev dktX3_sign_0 : List UInt8 := dkwX3_sign_0 ++ dktX3_sign_1
theorem dksX3_sign_0 : cX3_sign.data.toList.drop 0 = dktX3_sign_0 := by decide +kernel
theorem dksX3_sign_1 : cX3_sign.data.toList.drop 24 = dktX3_sign_1 := dk_seg dksX3_sign_0 24 rfl rfl
theorem dX3_sign_0 : decode cX3_sign 0 = .ok (.aload_n 0, 1) := dk_42 (dk_at dksX3_sign_0 0 rfl rfl)
theorem dX3_sign_1 : decode cX3_sign 1 = .ok (.getfield 140, 3) := dk_180 0 140 (dk_at dksX3_sign_0 1 rfl rfl)
theorem dX3_sign_4 : decode cX3_sign 4 = .ok (.aload_n 0, 1) := dk_42 (dk_at dksX3_sign_0 4 rfl rfl)
theorem dX3_sign_5 : decode cX3_sign 5 = .ok (.getfield 137, 3) := dk_180 0 137 (dk_at dksX3_sign_0 5 rfl rfl)
theorem dX3_sign_8 : decode cX3_sign 8 = .ok (.if_icmp .ge 15, 3) := dk_162 0 15 (dk_at dksX3_sign_0 8 rfl rfl)
theorem dX3_sign_11 : decode cX3_sign 11 = .ok (.aload_n 0, 1) := dk_42 (dk_at dksX3_sign_0 11 rfl rfl)
theorem dX3_sign_12 : decode cX3_sign 12 = .ok (.getfield 19, 3) := dk_180 0 19 (dk_at dksX3_sign_0 12 rfl rfl)
theorem dX3_sign_15 : decode cX3_sign 15 = .ok (.aload_n 0, 1) := dk_42 (dk_at dksX3_sign_0 15 rfl rfl)
theorem dX3_sign_16 : decode cX3_sign 16 = .ok (.getfield 140, 3) := dk_180 0 140 (dk_at dksX3_sign_0 16 rfl rfl)
theorem dX3_sign_19 : decode cX3_sign 19 = .ok (.iaload, 1) := dk_46 (dk_at dksX3_sign_0 19 rfl rfl)
theorem dX3_sign_20 : decode cX3_sign 20 = .ok (.goto 4, 3) := dk_167 0 4 (dk_at dksX3_sign_0 20 rfl rfl)
theorem dX3_sign_23 : decode cX3_sign 23 = .ok (.iconst 0, 1) := dk_3 (dk_at dksX3_sign_0 23 rfl rfl)
theorem dX3_sign_24 : decode cX3_sign 24 = .ok (.ireturn, 1) := dk_172 (dk_at dksX3_sign_1 0 rfl rfl)
abbrev cX3_isTold : ByteArray := prog_8_method_41_code
def yX3_isTold : MethodName := ⟨RX3, "isTold", "(I)Z"⟩
def dkwX3_isTold_1 : List UInt8 := [160, 0, 7, 4, 167, 0, 4, 3, 61, 132, 3, 1, 167, 255, 225, 28, 172]
abbrev dktX3_isTold_1 : List UInt8 := dkwX3_isTold_1 ++ []
def dkwX3_isTold_0 : List UInt8 := [3, 61, 3, 62, 29, 42, 180, 0, 83, 162, 0, 29, 28, 154, 0, 13, 42, 180, 0, 22, 29, 46, 27]
abbrev dktX3_isTold_0 : List UInt8 := dkwX3_isTold_0 ++ dktX3_isTold_1
theorem dksX3_isTold_0 : cX3_isTold.data.toList.drop 0 = dktX3_isTold_0 := by decide +kernel
theorem dksX3_isTold_1 : cX3_isTold.data.toList.drop 23 = dktX3_isTold_1 := dk_seg dksX3_isTold_0 23 rfl rfl
theorem dX3_isTold_0 : decode cX3_isTold 0 = .ok (.iconst 0, 1) := dk_3 (dk_at dksX3_isTold_0 0 rfl rfl)
theorem dX3_isTold_1 : decode cX3_isTold 1 = .ok (.istore_n 2, 1) := dk_61 (dk_at dksX3_isTold_0 1 rfl rfl)
theorem dX3_isTold_2 : decode cX3_isTold 2 = .ok (.iconst 0, 1) := dk_3 (dk_at dksX3_isTold_0 2 rfl rfl)
theorem dX3_isTold_3 : decode cX3_isTold 3 = .ok (.istore_n 3, 1) := dk_62 (dk_at dksX3_isTold_0 3 rfl rfl)
theorem dX3_isTold_4 : decode cX3_isTold 4 = .ok (.iload_n 3, 1) := dk_29 (dk_at dksX3_isTold_0 4 rfl rfl)
theorem dX3_isTold_5 : decode cX3_isTold 5 = .ok (.aload_n 0, 1) := dk_42 (dk_at dksX3_isTold_0 5 rfl rfl)
theorem dX3_isTold_6 : decode cX3_isTold 6 = .ok (.getfield 83, 3) := dk_180 0 83 (dk_at dksX3_isTold_0 6 rfl rfl)
theorem dX3_isTold_9 : decode cX3_isTold 9 = .ok (.if_icmp .ge 29, 3) := dk_162 0 29 (dk_at dksX3_isTold_0 9 rfl rfl)
theorem dX3_isTold_12 : decode cX3_isTold 12 = .ok (.iload_n 2, 1) := dk_28 (dk_at dksX3_isTold_0 12 rfl rfl)
theorem dX3_isTold_13 : decode cX3_isTold 13 = .ok (.ifCond .ne 13, 3) := dk_154 0 13 (dk_at dksX3_isTold_0 13 rfl rfl)
theorem dX3_isTold_16 : decode cX3_isTold 16 = .ok (.aload_n 0, 1) := dk_42 (dk_at dksX3_isTold_0 16 rfl rfl)
theorem dX3_isTold_17 : decode cX3_isTold 17 = .ok (.getfield 22, 3) := dk_180 0 22 (dk_at dksX3_isTold_0 17 rfl rfl)
theorem dX3_isTold_20 : decode cX3_isTold 20 = .ok (.iload_n 3, 1) := dk_29 (dk_at dksX3_isTold_0 20 rfl rfl)
theorem dX3_isTold_21 : decode cX3_isTold 21 = .ok (.iaload, 1) := dk_46 (dk_at dksX3_isTold_0 21 rfl rfl)
theorem dX3_isTold_22 : decode cX3_isTold 22 = .ok (.iload_n 1, 1) := dk_27 (dk_at dksX3_isTold_0 22 rfl rfl)
theorem dX3_isTold_23 : decode cX3_isTold 23 = .ok (.if_icmp .ne 7, 3) := dk_160 0 7 (dk_at dksX3_isTold_1 0 rfl rfl)
theorem dX3_isTold_26 : decode cX3_isTold 26 = .ok (.iconst 1, 1) := dk_4 (dk_at dksX3_isTold_1 3 rfl rfl)
theorem dX3_isTold_27 : decode cX3_isTold 27 = .ok (.goto 4, 3) := dk_167 0 4 (dk_at dksX3_isTold_1 4 rfl rfl)
theorem dX3_isTold_30 : decode cX3_isTold 30 = .ok (.iconst 0, 1) := dk_3 (dk_at dksX3_isTold_1 7 rfl rfl)
theorem dX3_isTold_31 : decode cX3_isTold 31 = .ok (.istore_n 2, 1) := dk_61 (dk_at dksX3_isTold_1 8 rfl rfl)
theorem dX3_isTold_32 : decode cX3_isTold 32 = .ok (.iinc 3 1, 3) := dk_132 3 1 (dk_at dksX3_isTold_1 9 rfl rfl)
theorem dX3_isTold_35 : decode cX3_isTold 35 = .ok (.goto (-31), 3) := dk_167 255 225 (dk_at dksX3_isTold_1 12 rfl rfl)
theorem dX3_isTold_38 : decode cX3_isTold 38 = .ok (.iload_n 2, 1) := dk_28 (dk_at dksX3_isTold_1 15 rfl rfl)
theorem dX3_isTold_39 : decode cX3_isTold 39 = .ok (.ireturn, 1) := dk_172 (dk_at dksX3_isTold_1 16 rfl rfl)
abbrev cX3_pickAll : ByteArray := prog_8_method_45_code
def yX3_pickAll : MethodName := ⟨RX3, "pickAll", "()I"⟩
def dkwX3_pickAll_1 : List UInt8 := [182, 0, 131, 42, 3, 181, 0, 137, 42, 42, 180, 0, 7, 5, 46, 182, 0, 159, 172]
abbrev dktX3_pickAll_1 : List UInt8 := dkwX3_pickAll_1 ++ []
def dkwX3_pickAll_0 : List UInt8 := [42, 3, 181, 0, 38, 42, 182, 0, 156, 42, 180, 0, 146, 154, 0, 9, 42, 4, 182, 0, 121, 172, 42]
abbrev dktX3_pickAll_0 : List UInt8 := dkwX3_pickAll_0 ++ dktX3_pickAll_1
theorem dksX3_pickAll_0 : cX3_pickAll.data.toList.drop 0 = dktX3_pickAll_0 := by decide +kernel
theorem dksX3_pickAll_1 : cX3_pickAll.data.toList.drop 23 = dktX3_pickAll_1 := dk_seg dksX3_pickAll_0 23 rfl rfl
theorem dX3_pickAll_0 : decode cX3_pickAll 0 = .ok (.aload_n 0, 1) := dk_42 (dk_at dksX3_pickAll_0 0 rfl rfl)
theorem dX3_pickAll_1 : decode cX3_pickAll 1 = .ok (.iconst 0, 1) := dk_3 (dk_at dksX3_pickAll_0 1 rfl rfl)
theorem dX3_pickAll_2 : decode cX3_pickAll 2 = .ok (.putfield 38, 3) := dk_181 0 38 (dk_at dksX3_pickAll_0 2 rfl rfl)
theorem dX3_pickAll_5 : decode cX3_pickAll 5 = .ok (.aload_n 0, 1) := dk_42 (dk_at dksX3_pickAll_0 5 rfl rfl)
theorem dX3_pickAll_6 : decode cX3_pickAll 6 = .ok (.invokevirtual 156, 3) := dk_182 0 156 (dk_at dksX3_pickAll_0 6 rfl rfl)
theorem dX3_pickAll_9 : decode cX3_pickAll 9 = .ok (.aload_n 0, 1) := dk_42 (dk_at dksX3_pickAll_0 9 rfl rfl)
theorem dX3_pickAll_10 : decode cX3_pickAll 10 = .ok (.getfield 146, 3) := dk_180 0 146 (dk_at dksX3_pickAll_0 10 rfl rfl)
theorem dX3_pickAll_13 : decode cX3_pickAll 13 = .ok (.ifCond .ne 9, 3) := dk_154 0 9 (dk_at dksX3_pickAll_0 13 rfl rfl)
theorem dX3_pickAll_16 : decode cX3_pickAll 16 = .ok (.aload_n 0, 1) := dk_42 (dk_at dksX3_pickAll_0 16 rfl rfl)
theorem dX3_pickAll_17 : decode cX3_pickAll 17 = .ok (.iconst 1, 1) := dk_4 (dk_at dksX3_pickAll_0 17 rfl rfl)
theorem dX3_pickAll_18 : decode cX3_pickAll 18 = .ok (.invokevirtual 121, 3) := dk_182 0 121 (dk_at dksX3_pickAll_0 18 rfl rfl)
theorem dX3_pickAll_21 : decode cX3_pickAll 21 = .ok (.ireturn, 1) := dk_172 (dk_at dksX3_pickAll_0 21 rfl rfl)
theorem dX3_pickAll_22 : decode cX3_pickAll 22 = .ok (.aload_n 0, 1) := dk_42 (dk_at dksX3_pickAll_0 22 rfl rfl)
theorem dX3_pickAll_23 : decode cX3_pickAll 23 = .ok (.invokevirtual 131, 3) := dk_182 0 131 (dk_at dksX3_pickAll_1 0 rfl rfl)
theorem dX3_pickAll_26 : decode cX3_pickAll 26 = .ok (.aload_n 0, 1) := dk_42 (dk_at dksX3_pickAll_1 3 rfl rfl)
theorem dX3_pickAll_27 : decode cX3_pickAll 27 = .ok (.iconst 0, 1) := dk_3 (dk_at dksX3_pickAll_1 4 rfl rfl)
theorem dX3_pickAll_28 : decode cX3_pickAll 28 = .ok (.putfield 137, 3) := dk_181 0 137 (dk_at dksX3_pickAll_1 5 rfl rfl)
theorem dX3_pickAll_31 : decode cX3_pickAll 31 = .ok (.aload_n 0, 1) := dk_42 (dk_at dksX3_pickAll_1 8 rfl rfl)
theorem dX3_pickAll_32 : decode cX3_pickAll 32 = .ok (.aload_n 0, 1) := dk_42 (dk_at dksX3_pickAll_1 9 rfl rfl)
theorem dX3_pickAll_33 : decode cX3_pickAll 33 = .ok (.getfield 7, 3) := dk_180 0 7 (dk_at dksX3_pickAll_1 10 rfl rfl)
theorem dX3_pickAll_36 : decode cX3_pickAll 36 = .ok (.iconst 2, 1) := dk_5 (dk_at dksX3_pickAll_1 13 rfl rfl)
theorem dX3_pickAll_37 : decode cX3_pickAll 37 = .ok (.iaload, 1) := dk_46 (dk_at dksX3_pickAll_1 14 rfl rfl)
theorem dX3_pickAll_38 : decode cX3_pickAll 38 = .ok (.invokevirtual 159, 3) := dk_182 0 159 (dk_at dksX3_pickAll_1 15 rfl rfl)
theorem dX3_pickAll_41 : decode cX3_pickAll 41 = .ok (.ireturn, 1) := dk_172 (dk_at dksX3_pickAll_1 18 rfl rfl)
abbrev cX3_picksBatch : ByteArray := prog_8_method_30_code
def yX3_picksBatch : MethodName := ⟨RX3, "picksBatch", "(I)I"⟩
def dkwX3_picksBatch_1 : List UInt8 := [182, 0, 103, 172, 42, 182, 0, 100, 42, 42, 180, 0, 25, 182, 0, 103, 172]
abbrev dktX3_picksBatch_1 : List UInt8 := dkwX3_picksBatch_1 ++ []
def dkwX3_picksBatch_0 : List UInt8 := [27, 4, 160, 0, 8, 42, 182, 0, 111, 172, 27, 5, 160, 0, 16, 42, 182, 0, 114, 42, 42, 180, 0, 28]
abbrev dktX3_picksBatch_0 : List UInt8 := dkwX3_picksBatch_0 ++ dktX3_picksBatch_1
theorem dksX3_picksBatch_0 : cX3_picksBatch.data.toList.drop 0 = dktX3_picksBatch_0 := by decide +kernel
theorem dksX3_picksBatch_1 : cX3_picksBatch.data.toList.drop 24 = dktX3_picksBatch_1 := dk_seg dksX3_picksBatch_0 24 rfl rfl
theorem dX3_picksBatch_0 : decode cX3_picksBatch 0 = .ok (.iload_n 1, 1) := dk_27 (dk_at dksX3_picksBatch_0 0 rfl rfl)
theorem dX3_picksBatch_1 : decode cX3_picksBatch 1 = .ok (.iconst 1, 1) := dk_4 (dk_at dksX3_picksBatch_0 1 rfl rfl)
theorem dX3_picksBatch_2 : decode cX3_picksBatch 2 = .ok (.if_icmp .ne 8, 3) := dk_160 0 8 (dk_at dksX3_picksBatch_0 2 rfl rfl)
theorem dX3_picksBatch_5 : decode cX3_picksBatch 5 = .ok (.aload_n 0, 1) := dk_42 (dk_at dksX3_picksBatch_0 5 rfl rfl)
theorem dX3_picksBatch_6 : decode cX3_picksBatch 6 = .ok (.invokevirtual 111, 3) := dk_182 0 111 (dk_at dksX3_picksBatch_0 6 rfl rfl)
theorem dX3_picksBatch_9 : decode cX3_picksBatch 9 = .ok (.ireturn, 1) := dk_172 (dk_at dksX3_picksBatch_0 9 rfl rfl)
theorem dX3_picksBatch_10 : decode cX3_picksBatch 10 = .ok (.iload_n 1, 1) := dk_27 (dk_at dksX3_picksBatch_0 10 rfl rfl)
theorem dX3_picksBatch_11 : decode cX3_picksBatch 11 = .ok (.iconst 2, 1) := dk_5 (dk_at dksX3_picksBatch_0 11 rfl rfl)
theorem dX3_picksBatch_12 : decode cX3_picksBatch 12 = .ok (.if_icmp .ne 16, 3) := dk_160 0 16 (dk_at dksX3_picksBatch_0 12 rfl rfl)
theorem dX3_picksBatch_15 : decode cX3_picksBatch 15 = .ok (.aload_n 0, 1) := dk_42 (dk_at dksX3_picksBatch_0 15 rfl rfl)
theorem dX3_picksBatch_16 : decode cX3_picksBatch 16 = .ok (.invokevirtual 114, 3) := dk_182 0 114 (dk_at dksX3_picksBatch_0 16 rfl rfl)
theorem dX3_picksBatch_19 : decode cX3_picksBatch 19 = .ok (.aload_n 0, 1) := dk_42 (dk_at dksX3_picksBatch_0 19 rfl rfl)
theorem dX3_picksBatch_20 : decode cX3_picksBatch 20 = .ok (.aload_n 0, 1) := dk_42 (dk_at dksX3_picksBatch_0 20 rfl rfl)
theorem dX3_picksBatch_21 : decode cX3_picksBatch 21 = .ok (.getfield 28, 3) := dk_180 0 28 (dk_at dksX3_picksBatch_0 21 rfl rfl)
theorem dX3_picksBatch_24 : decode cX3_picksBatch 24 = .ok (.invokevirtual 103, 3) := dk_182 0 103 (dk_at dksX3_picksBatch_1 0 rfl rfl)
theorem dX3_picksBatch_27 : decode cX3_picksBatch 27 = .ok (.ireturn, 1) := dk_172 (dk_at dksX3_picksBatch_1 3 rfl rfl)
theorem dX3_picksBatch_28 : decode cX3_picksBatch 28 = .ok (.aload_n 0, 1) := dk_42 (dk_at dksX3_picksBatch_1 4 rfl rfl)
theorem dX3_picksBatch_29 : decode cX3_picksBatch 29 = .ok (.invokevirtual 100, 3) := dk_182 0 100 (dk_at dksX3_picksBatch_1 5 rfl rfl)
theorem dX3_picksBatch_32 : decode cX3_picksBatch 32 = .ok (.aload_n 0, 1) := dk_42 (dk_at dksX3_picksBatch_1 8 rfl rfl)
theorem dX3_picksBatch_33 : decode cX3_picksBatch 33 = .ok (.aload_n 0, 1) := dk_42 (dk_at dksX3_picksBatch_1 9 rfl rfl)
theorem dX3_picksBatch_34 : decode cX3_picksBatch 34 = .ok (.getfield 25, 3) := dk_180 0 25 (dk_at dksX3_picksBatch_1 10 rfl rfl)
theorem dX3_picksBatch_37 : decode cX3_picksBatch 37 = .ok (.invokevirtual 103, 3) := dk_182 0 103 (dk_at dksX3_picksBatch_1 13 rfl rfl)
theorem dX3_picksBatch_40 : decode cX3_picksBatch 40 = .ok (.ireturn, 1) := dk_172 (dk_at dksX3_picksBatch_1 16 rfl rfl)
abbrev cX3_picksNearest : ByteArray := prog_8_method_25_code
def yX3_picksNearest : MethodName := ⟨RX3, "picksNearest", "()I"⟩
def dkwX3_picksNearest_2 : List UInt8 := [46, 182, 0, 89, 87, 132, 1, 1, 42, 182, 0, 92, 61, 167, 255, 225, 27, 172]
abbrev dktX3_picksNearest_2 : List UInt8 := dkwX3_picksNearest_2 ++ []
def dkwX3_picksNearest_1 : List UInt8 := [60, 42, 182, 0, 92, 61, 28, 2, 159, 0, 32, 42, 180, 0, 31, 28, 4, 84, 42, 42, 180, 0, 22, 28]
abbrev dktX3_picksNearest_1 : List UInt8 := dkwX3_picksNearest_1 ++ dktX3_picksNearest_2
def dkwX3_picksNearest_0 : List UInt8 := [3, 60, 27, 42, 180, 0, 83, 162, 0, 16, 42, 180, 0, 31, 27, 3, 84, 132, 1, 1, 167, 255, 238, 3]
abbrev dktX3_picksNearest_0 : List UInt8 := dkwX3_picksNearest_0 ++ dktX3_picksNearest_1
theorem dksX3_picksNearest_0 : cX3_picksNearest.data.toList.drop 0 = dktX3_picksNearest_0 := by decide +kernel
theorem dksX3_picksNearest_1 : cX3_picksNearest.data.toList.drop 24 = dktX3_picksNearest_1 := dk_seg dksX3_picksNearest_0 24 rfl rfl
theorem dksX3_picksNearest_2 : cX3_picksNearest.data.toList.drop 48 = dktX3_picksNearest_2 := dk_seg dksX3_picksNearest_1 24 rfl rfl
theorem dX3_picksNearest_0 : decode cX3_picksNearest 0 = .ok (.iconst 0, 1) := dk_3 (dk_at dksX3_picksNearest_0 0 rfl rfl)
theorem dX3_picksNearest_1 : decode cX3_picksNearest 1 = .ok (.istore_n 1, 1) := dk_60 (dk_at dksX3_picksNearest_0 1 rfl rfl)
theorem dX3_picksNearest_2 : decode cX3_picksNearest 2 = .ok (.iload_n 1, 1) := dk_27 (dk_at dksX3_picksNearest_0 2 rfl rfl)
theorem dX3_picksNearest_3 : decode cX3_picksNearest 3 = .ok (.aload_n 0, 1) := dk_42 (dk_at dksX3_picksNearest_0 3 rfl rfl)
theorem dX3_picksNearest_4 : decode cX3_picksNearest 4 = .ok (.getfield 83, 3) := dk_180 0 83 (dk_at dksX3_picksNearest_0 4 rfl rfl)
theorem dX3_picksNearest_7 : decode cX3_picksNearest 7 = .ok (.if_icmp .ge 16, 3) := dk_162 0 16 (dk_at dksX3_picksNearest_0 7 rfl rfl)
theorem dX3_picksNearest_10 : decode cX3_picksNearest 10 = .ok (.aload_n 0, 1) := dk_42 (dk_at dksX3_picksNearest_0 10 rfl rfl)
theorem dX3_picksNearest_11 : decode cX3_picksNearest 11 = .ok (.getfield 31, 3) := dk_180 0 31 (dk_at dksX3_picksNearest_0 11 rfl rfl)
theorem dX3_picksNearest_14 : decode cX3_picksNearest 14 = .ok (.iload_n 1, 1) := dk_27 (dk_at dksX3_picksNearest_0 14 rfl rfl)
theorem dX3_picksNearest_15 : decode cX3_picksNearest 15 = .ok (.iconst 0, 1) := dk_3 (dk_at dksX3_picksNearest_0 15 rfl rfl)
theorem dX3_picksNearest_16 : decode cX3_picksNearest 16 = .ok (.bastore, 1) := dk_84 (dk_at dksX3_picksNearest_0 16 rfl rfl)
theorem dX3_picksNearest_17 : decode cX3_picksNearest 17 = .ok (.iinc 1 1, 3) := dk_132 1 1 (dk_at dksX3_picksNearest_0 17 rfl rfl)
theorem dX3_picksNearest_20 : decode cX3_picksNearest 20 = .ok (.goto (-18), 3) := dk_167 255 238 (dk_at dksX3_picksNearest_0 20 rfl rfl)
theorem dX3_picksNearest_23 : decode cX3_picksNearest 23 = .ok (.iconst 0, 1) := dk_3 (dk_at dksX3_picksNearest_0 23 rfl rfl)
theorem dX3_picksNearest_24 : decode cX3_picksNearest 24 = .ok (.istore_n 1, 1) := dk_60 (dk_at dksX3_picksNearest_1 0 rfl rfl)
theorem dX3_picksNearest_25 : decode cX3_picksNearest 25 = .ok (.aload_n 0, 1) := dk_42 (dk_at dksX3_picksNearest_1 1 rfl rfl)
theorem dX3_picksNearest_26 : decode cX3_picksNearest 26 = .ok (.invokevirtual 92, 3) := dk_182 0 92 (dk_at dksX3_picksNearest_1 2 rfl rfl)
theorem dX3_picksNearest_29 : decode cX3_picksNearest 29 = .ok (.istore_n 2, 1) := dk_61 (dk_at dksX3_picksNearest_1 5 rfl rfl)
theorem dX3_picksNearest_30 : decode cX3_picksNearest 30 = .ok (.iload_n 2, 1) := dk_28 (dk_at dksX3_picksNearest_1 6 rfl rfl)
theorem dX3_picksNearest_31 : decode cX3_picksNearest 31 = .ok (.iconst (-1), 1) := dk_2 (dk_at dksX3_picksNearest_1 7 rfl rfl)
theorem dX3_picksNearest_32 : decode cX3_picksNearest 32 = .ok (.if_icmp .eq 32, 3) := dk_159 0 32 (dk_at dksX3_picksNearest_1 8 rfl rfl)
theorem dX3_picksNearest_35 : decode cX3_picksNearest 35 = .ok (.aload_n 0, 1) := dk_42 (dk_at dksX3_picksNearest_1 11 rfl rfl)
theorem dX3_picksNearest_36 : decode cX3_picksNearest 36 = .ok (.getfield 31, 3) := dk_180 0 31 (dk_at dksX3_picksNearest_1 12 rfl rfl)
theorem dX3_picksNearest_39 : decode cX3_picksNearest 39 = .ok (.iload_n 2, 1) := dk_28 (dk_at dksX3_picksNearest_1 15 rfl rfl)
theorem dX3_picksNearest_40 : decode cX3_picksNearest 40 = .ok (.iconst 1, 1) := dk_4 (dk_at dksX3_picksNearest_1 16 rfl rfl)
theorem dX3_picksNearest_41 : decode cX3_picksNearest 41 = .ok (.bastore, 1) := dk_84 (dk_at dksX3_picksNearest_1 17 rfl rfl)
theorem dX3_picksNearest_42 : decode cX3_picksNearest 42 = .ok (.aload_n 0, 1) := dk_42 (dk_at dksX3_picksNearest_1 18 rfl rfl)
theorem dX3_picksNearest_43 : decode cX3_picksNearest 43 = .ok (.aload_n 0, 1) := dk_42 (dk_at dksX3_picksNearest_1 19 rfl rfl)
theorem dX3_picksNearest_44 : decode cX3_picksNearest 44 = .ok (.getfield 22, 3) := dk_180 0 22 (dk_at dksX3_picksNearest_1 20 rfl rfl)
theorem dX3_picksNearest_47 : decode cX3_picksNearest 47 = .ok (.iload_n 2, 1) := dk_28 (dk_at dksX3_picksNearest_1 23 rfl rfl)
theorem dX3_picksNearest_48 : decode cX3_picksNearest 48 = .ok (.iaload, 1) := dk_46 (dk_at dksX3_picksNearest_2 0 rfl rfl)
theorem dX3_picksNearest_49 : decode cX3_picksNearest 49 = .ok (.invokevirtual 89, 3) := dk_182 0 89 (dk_at dksX3_picksNearest_2 1 rfl rfl)
theorem dX3_picksNearest_52 : decode cX3_picksNearest 52 = .ok (.pop, 1) := dk_87 (dk_at dksX3_picksNearest_2 4 rfl rfl)
theorem dX3_picksNearest_53 : decode cX3_picksNearest 53 = .ok (.iinc 1 1, 3) := dk_132 1 1 (dk_at dksX3_picksNearest_2 5 rfl rfl)
theorem dX3_picksNearest_56 : decode cX3_picksNearest 56 = .ok (.aload_n 0, 1) := dk_42 (dk_at dksX3_picksNearest_2 8 rfl rfl)
theorem dX3_picksNearest_57 : decode cX3_picksNearest 57 = .ok (.invokevirtual 92, 3) := dk_182 0 92 (dk_at dksX3_picksNearest_2 9 rfl rfl)
theorem dX3_picksNearest_60 : decode cX3_picksNearest 60 = .ok (.istore_n 2, 1) := dk_61 (dk_at dksX3_picksNearest_2 12 rfl rfl)
theorem dX3_picksNearest_61 : decode cX3_picksNearest 61 = .ok (.goto (-31), 3) := dk_167 255 225 (dk_at dksX3_picksNearest_2 13 rfl rfl)
theorem dX3_picksNearest_64 : decode cX3_picksNearest 64 = .ok (.iload_n 1, 1) := dk_27 (dk_at dksX3_picksNearest_2 16 rfl rfl)
theorem dX3_picksNearest_65 : decode cX3_picksNearest 65 = .ok (.ireturn, 1) := dk_172 (dk_at dksX3_picksNearest_2 17 rfl rfl)
abbrev cX3_nearest : ByteArray := prog_8_method_24_code
def yX3_nearest : MethodName := ⟨RX3, "nearest", "()I"⟩
def dkwX3_nearest_3 : List UInt8 := [162, 0, 7, 28, 167, 0, 4, 27, 60, 132, 2, 1, 167, 255, 179, 27, 172]
abbrev dktX3_nearest_3 : List UInt8 := dkwX3_nearest_3 ++ []
def dkwX3_nearest_2 : List UInt8 := [159, 0, 26, 42, 42, 180, 0, 22, 28, 46, 182, 0, 73, 42, 42, 180, 0, 22, 27, 46, 182, 0, 73]
abbrev dktX3_nearest_2 : List UInt8 := dkwX3_nearest_2 ++ dktX3_nearest_3
def dkwX3_nearest_1 : List UInt8 := [180, 0, 22, 28, 46, 182, 0, 86, 154, 0, 7, 4, 167, 0, 4, 3, 62, 29, 153, 0, 35, 27, 2]
abbrev dktX3_nearest_1 : List UInt8 := dkwX3_nearest_1 ++ dktX3_nearest_2
def dkwX3_nearest_0 : List UInt8 := [2, 60, 3, 61, 28, 42, 180, 0, 83, 162, 0, 75, 42, 180, 0, 31, 28, 51, 154, 0, 20, 42, 42]
abbrev dktX3_nearest_0 : List UInt8 := dkwX3_nearest_0 ++ dktX3_nearest_1
theorem dksX3_nearest_0 : cX3_nearest.data.toList.drop 0 = dktX3_nearest_0 := by decide +kernel
theorem dksX3_nearest_1 : cX3_nearest.data.toList.drop 23 = dktX3_nearest_1 := dk_seg dksX3_nearest_0 23 rfl rfl
theorem dksX3_nearest_2 : cX3_nearest.data.toList.drop 46 = dktX3_nearest_2 := dk_seg dksX3_nearest_1 23 rfl rfl
theorem dksX3_nearest_3 : cX3_nearest.data.toList.drop 69 = dktX3_nearest_3 := dk_seg dksX3_nearest_2 23 rfl rfl
theorem dX3_nearest_0 : decode cX3_nearest 0 = .ok (.iconst (-1), 1) := dk_2 (dk_at dksX3_nearest_0 0 rfl rfl)
theorem dX3_nearest_1 : decode cX3_nearest 1 = .ok (.istore_n 1, 1) := dk_60 (dk_at dksX3_nearest_0 1 rfl rfl)
theorem dX3_nearest_2 : decode cX3_nearest 2 = .ok (.iconst 0, 1) := dk_3 (dk_at dksX3_nearest_0 2 rfl rfl)
theorem dX3_nearest_3 : decode cX3_nearest 3 = .ok (.istore_n 2, 1) := dk_61 (dk_at dksX3_nearest_0 3 rfl rfl)
theorem dX3_nearest_4 : decode cX3_nearest 4 = .ok (.iload_n 2, 1) := dk_28 (dk_at dksX3_nearest_0 4 rfl rfl)
theorem dX3_nearest_5 : decode cX3_nearest 5 = .ok (.aload_n 0, 1) := dk_42 (dk_at dksX3_nearest_0 5 rfl rfl)
theorem dX3_nearest_6 : decode cX3_nearest 6 = .ok (.getfield 83, 3) := dk_180 0 83 (dk_at dksX3_nearest_0 6 rfl rfl)
theorem dX3_nearest_9 : decode cX3_nearest 9 = .ok (.if_icmp .ge 75, 3) := dk_162 0 75 (dk_at dksX3_nearest_0 9 rfl rfl)
theorem dX3_nearest_12 : decode cX3_nearest 12 = .ok (.aload_n 0, 1) := dk_42 (dk_at dksX3_nearest_0 12 rfl rfl)
theorem dX3_nearest_13 : decode cX3_nearest 13 = .ok (.getfield 31, 3) := dk_180 0 31 (dk_at dksX3_nearest_0 13 rfl rfl)
theorem dX3_nearest_16 : decode cX3_nearest 16 = .ok (.iload_n 2, 1) := dk_28 (dk_at dksX3_nearest_0 16 rfl rfl)
theorem dX3_nearest_17 : decode cX3_nearest 17 = .ok (.baload, 1) := dk_51 (dk_at dksX3_nearest_0 17 rfl rfl)
theorem dX3_nearest_18 : decode cX3_nearest 18 = .ok (.ifCond .ne 20, 3) := dk_154 0 20 (dk_at dksX3_nearest_0 18 rfl rfl)
theorem dX3_nearest_21 : decode cX3_nearest 21 = .ok (.aload_n 0, 1) := dk_42 (dk_at dksX3_nearest_0 21 rfl rfl)
theorem dX3_nearest_22 : decode cX3_nearest 22 = .ok (.aload_n 0, 1) := dk_42 (dk_at dksX3_nearest_0 22 rfl rfl)
theorem dX3_nearest_23 : decode cX3_nearest 23 = .ok (.getfield 22, 3) := dk_180 0 22 (dk_at dksX3_nearest_1 0 rfl rfl)
theorem dX3_nearest_26 : decode cX3_nearest 26 = .ok (.iload_n 2, 1) := dk_28 (dk_at dksX3_nearest_1 3 rfl rfl)
theorem dX3_nearest_27 : decode cX3_nearest 27 = .ok (.iaload, 1) := dk_46 (dk_at dksX3_nearest_1 4 rfl rfl)
theorem dX3_nearest_28 : decode cX3_nearest 28 = .ok (.invokevirtual 86, 3) := dk_182 0 86 (dk_at dksX3_nearest_1 5 rfl rfl)
theorem dX3_nearest_31 : decode cX3_nearest 31 = .ok (.ifCond .ne 7, 3) := dk_154 0 7 (dk_at dksX3_nearest_1 8 rfl rfl)
theorem dX3_nearest_34 : decode cX3_nearest 34 = .ok (.iconst 1, 1) := dk_4 (dk_at dksX3_nearest_1 11 rfl rfl)
theorem dX3_nearest_35 : decode cX3_nearest 35 = .ok (.goto 4, 3) := dk_167 0 4 (dk_at dksX3_nearest_1 12 rfl rfl)
theorem dX3_nearest_38 : decode cX3_nearest 38 = .ok (.iconst 0, 1) := dk_3 (dk_at dksX3_nearest_1 15 rfl rfl)
theorem dX3_nearest_39 : decode cX3_nearest 39 = .ok (.istore_n 3, 1) := dk_62 (dk_at dksX3_nearest_1 16 rfl rfl)
theorem dX3_nearest_40 : decode cX3_nearest 40 = .ok (.iload_n 3, 1) := dk_29 (dk_at dksX3_nearest_1 17 rfl rfl)
theorem dX3_nearest_41 : decode cX3_nearest 41 = .ok (.ifCond .eq 35, 3) := dk_153 0 35 (dk_at dksX3_nearest_1 18 rfl rfl)
theorem dX3_nearest_44 : decode cX3_nearest 44 = .ok (.iload_n 1, 1) := dk_27 (dk_at dksX3_nearest_1 21 rfl rfl)
theorem dX3_nearest_45 : decode cX3_nearest 45 = .ok (.iconst (-1), 1) := dk_2 (dk_at dksX3_nearest_1 22 rfl rfl)
theorem dX3_nearest_46 : decode cX3_nearest 46 = .ok (.if_icmp .eq 26, 3) := dk_159 0 26 (dk_at dksX3_nearest_2 0 rfl rfl)
theorem dX3_nearest_49 : decode cX3_nearest 49 = .ok (.aload_n 0, 1) := dk_42 (dk_at dksX3_nearest_2 3 rfl rfl)
theorem dX3_nearest_50 : decode cX3_nearest 50 = .ok (.aload_n 0, 1) := dk_42 (dk_at dksX3_nearest_2 4 rfl rfl)
theorem dX3_nearest_51 : decode cX3_nearest 51 = .ok (.getfield 22, 3) := dk_180 0 22 (dk_at dksX3_nearest_2 5 rfl rfl)
theorem dX3_nearest_54 : decode cX3_nearest 54 = .ok (.iload_n 2, 1) := dk_28 (dk_at dksX3_nearest_2 8 rfl rfl)
theorem dX3_nearest_55 : decode cX3_nearest 55 = .ok (.iaload, 1) := dk_46 (dk_at dksX3_nearest_2 9 rfl rfl)
theorem dX3_nearest_56 : decode cX3_nearest 56 = .ok (.invokevirtual 73, 3) := dk_182 0 73 (dk_at dksX3_nearest_2 10 rfl rfl)
theorem dX3_nearest_59 : decode cX3_nearest 59 = .ok (.aload_n 0, 1) := dk_42 (dk_at dksX3_nearest_2 13 rfl rfl)
theorem dX3_nearest_60 : decode cX3_nearest 60 = .ok (.aload_n 0, 1) := dk_42 (dk_at dksX3_nearest_2 14 rfl rfl)
theorem dX3_nearest_61 : decode cX3_nearest 61 = .ok (.getfield 22, 3) := dk_180 0 22 (dk_at dksX3_nearest_2 15 rfl rfl)
theorem dX3_nearest_64 : decode cX3_nearest 64 = .ok (.iload_n 1, 1) := dk_27 (dk_at dksX3_nearest_2 18 rfl rfl)
theorem dX3_nearest_65 : decode cX3_nearest 65 = .ok (.iaload, 1) := dk_46 (dk_at dksX3_nearest_2 19 rfl rfl)
theorem dX3_nearest_66 : decode cX3_nearest 66 = .ok (.invokevirtual 73, 3) := dk_182 0 73 (dk_at dksX3_nearest_2 20 rfl rfl)
theorem dX3_nearest_69 : decode cX3_nearest 69 = .ok (.if_icmp .ge 7, 3) := dk_162 0 7 (dk_at dksX3_nearest_3 0 rfl rfl)
theorem dX3_nearest_72 : decode cX3_nearest 72 = .ok (.iload_n 2, 1) := dk_28 (dk_at dksX3_nearest_3 3 rfl rfl)
theorem dX3_nearest_73 : decode cX3_nearest 73 = .ok (.goto 4, 3) := dk_167 0 4 (dk_at dksX3_nearest_3 4 rfl rfl)
theorem dX3_nearest_76 : decode cX3_nearest 76 = .ok (.iload_n 1, 1) := dk_27 (dk_at dksX3_nearest_3 7 rfl rfl)
theorem dX3_nearest_77 : decode cX3_nearest 77 = .ok (.istore_n 1, 1) := dk_60 (dk_at dksX3_nearest_3 8 rfl rfl)
theorem dX3_nearest_78 : decode cX3_nearest 78 = .ok (.iinc 2 1, 3) := dk_132 2 1 (dk_at dksX3_nearest_3 9 rfl rfl)
theorem dX3_nearest_81 : decode cX3_nearest 81 = .ok (.goto (-77), 3) := dk_167 255 179 (dk_at dksX3_nearest_3 12 rfl rfl)
theorem dX3_nearest_84 : decode cX3_nearest 84 = .ok (.iload_n 1, 1) := dk_27 (dk_at dksX3_nearest_3 15 rfl rfl)
theorem dX3_nearest_85 : decode cX3_nearest 85 = .ok (.ireturn, 1) := dk_172 (dk_at dksX3_nearest_3 16 rfl rfl)
abbrev cX3_laysBestOrder : ByteArray := prog_8_method_29_code
def yX3_laysBestOrder : MethodName := ⟨RX3, "laysBestOrder", "()V"⟩
def dkwX3_laysBestOrder_7 : List UInt8 := [42, 180, 0, 25, 21, 5, 46, 79, 132, 5, 1, 167, 255, 230, 42, 182, 0, 107, 61, 167, 255, 130, 177]
abbrev dktX3_laysBestOrder_7 : List UInt8 := dkwX3_laysBestOrder_7 ++ []
def dkwX3_laysBestOrder_6 : List UInt8 := [162, 0, 38, 21, 4, 60, 3, 54, 5, 21, 5, 42, 180, 0, 83, 162, 0, 23, 42, 180, 0, 28, 21, 5]
abbrev dktX3_laysBestOrder_6 : List UInt8 := dkwX3_laysBestOrder_6 ++ dktX3_laysBestOrder_7
def dkwX3_laysBestOrder_5 : List UInt8 := [21, 5, 46, 79, 132, 5, 1, 167, 255, 231, 29, 153, 0, 49, 27, 2, 159, 0, 9, 21, 4, 27]
abbrev dktX3_laysBestOrder_5 : List UInt8 := dkwX3_laysBestOrder_5 ++ dktX3_laysBestOrder_6
def dkwX3_laysBestOrder_4 : List UInt8 := [100, 54, 4, 3, 54, 5, 21, 5, 17, 0, 142, 162, 0, 23, 42, 180, 0, 7, 21, 5, 42, 180, 0, 35]
abbrev dktX3_laysBestOrder_4 : List UInt8 := dkwX3_laysBestOrder_4 ++ dktX3_laysBestOrder_5
def dkwX3_laysBestOrder_3 : List UInt8 := [180, 0, 83, 160, 0, 7, 4, 167, 0, 4, 3, 62, 42, 180, 0, 7, 7, 46, 42, 180, 0, 35, 7, 46]
abbrev dktX3_laysBestOrder_3 : List UInt8 := dkwX3_laysBestOrder_3 ++ dktX3_laysBestOrder_4
def dkwX3_laysBestOrder_2 : List UInt8 := [28, 28, 79, 132, 2, 1, 167, 255, 238, 4, 61, 28, 153, 0, 128, 42, 42, 180, 0, 25, 182, 0, 103, 42]
abbrev dktX3_laysBestOrder_2 : List UInt8 := dkwX3_laysBestOrder_2 ++ dktX3_laysBestOrder_3
def dkwX3_laysBestOrder_1 : List UInt8 := [132, 2, 1, 167, 255, 234, 42, 182, 0, 100, 3, 61, 28, 42, 180, 0, 83, 162, 0, 16, 42, 180, 0, 28]
abbrev dktX3_laysBestOrder_1 : List UInt8 := dkwX3_laysBestOrder_1 ++ dktX3_laysBestOrder_2
def dkwX3_laysBestOrder_0 : List UInt8 := [2, 60, 3, 61, 28, 17, 0, 142, 162, 0, 21, 42, 180, 0, 35, 28, 42, 180, 0, 7, 28, 46, 79]
abbrev dktX3_laysBestOrder_0 : List UInt8 := dkwX3_laysBestOrder_0 ++ dktX3_laysBestOrder_1
theorem dksX3_laysBestOrder_0 : cX3_laysBestOrder.data.toList.drop 0 = dktX3_laysBestOrder_0 := by decide +kernel
theorem dksX3_laysBestOrder_1 : cX3_laysBestOrder.data.toList.drop 23 = dktX3_laysBestOrder_1 := dk_seg dksX3_laysBestOrder_0 23 rfl rfl
theorem dksX3_laysBestOrder_2 : cX3_laysBestOrder.data.toList.drop 47 = dktX3_laysBestOrder_2 := dk_seg dksX3_laysBestOrder_1 24 rfl rfl
theorem dksX3_laysBestOrder_3 : cX3_laysBestOrder.data.toList.drop 71 = dktX3_laysBestOrder_3 := dk_seg dksX3_laysBestOrder_2 24 rfl rfl
theorem dksX3_laysBestOrder_4 : cX3_laysBestOrder.data.toList.drop 95 = dktX3_laysBestOrder_4 := dk_seg dksX3_laysBestOrder_3 24 rfl rfl
theorem dksX3_laysBestOrder_5 : cX3_laysBestOrder.data.toList.drop 119 = dktX3_laysBestOrder_5 := dk_seg dksX3_laysBestOrder_4 24 rfl rfl
theorem dksX3_laysBestOrder_6 : cX3_laysBestOrder.data.toList.drop 141 = dktX3_laysBestOrder_6 := dk_seg dksX3_laysBestOrder_5 22 rfl rfl
theorem dksX3_laysBestOrder_7 : cX3_laysBestOrder.data.toList.drop 165 = dktX3_laysBestOrder_7 := dk_seg dksX3_laysBestOrder_6 24 rfl rfl
theorem dX3_laysBestOrder_0 : decode cX3_laysBestOrder 0 = .ok (.iconst (-1), 1) := dk_2 (dk_at dksX3_laysBestOrder_0 0 rfl rfl)
theorem dX3_laysBestOrder_1 : decode cX3_laysBestOrder 1 = .ok (.istore_n 1, 1) := dk_60 (dk_at dksX3_laysBestOrder_0 1 rfl rfl)
theorem dX3_laysBestOrder_2 : decode cX3_laysBestOrder 2 = .ok (.iconst 0, 1) := dk_3 (dk_at dksX3_laysBestOrder_0 2 rfl rfl)
theorem dX3_laysBestOrder_3 : decode cX3_laysBestOrder 3 = .ok (.istore_n 2, 1) := dk_61 (dk_at dksX3_laysBestOrder_0 3 rfl rfl)
theorem dX3_laysBestOrder_4 : decode cX3_laysBestOrder 4 = .ok (.iload_n 2, 1) := dk_28 (dk_at dksX3_laysBestOrder_0 4 rfl rfl)
theorem dX3_laysBestOrder_5 : decode cX3_laysBestOrder 5 = .ok (.sipush 142, 3) := dk_17 0 142 (dk_at dksX3_laysBestOrder_0 5 rfl rfl)
theorem dX3_laysBestOrder_8 : decode cX3_laysBestOrder 8 = .ok (.if_icmp .ge 21, 3) := dk_162 0 21 (dk_at dksX3_laysBestOrder_0 8 rfl rfl)
theorem dX3_laysBestOrder_11 : decode cX3_laysBestOrder 11 = .ok (.aload_n 0, 1) := dk_42 (dk_at dksX3_laysBestOrder_0 11 rfl rfl)
theorem dX3_laysBestOrder_12 : decode cX3_laysBestOrder 12 = .ok (.getfield 35, 3) := dk_180 0 35 (dk_at dksX3_laysBestOrder_0 12 rfl rfl)
theorem dX3_laysBestOrder_15 : decode cX3_laysBestOrder 15 = .ok (.iload_n 2, 1) := dk_28 (dk_at dksX3_laysBestOrder_0 15 rfl rfl)
theorem dX3_laysBestOrder_16 : decode cX3_laysBestOrder 16 = .ok (.aload_n 0, 1) := dk_42 (dk_at dksX3_laysBestOrder_0 16 rfl rfl)
theorem dX3_laysBestOrder_17 : decode cX3_laysBestOrder 17 = .ok (.getfield 7, 3) := dk_180 0 7 (dk_at dksX3_laysBestOrder_0 17 rfl rfl)
theorem dX3_laysBestOrder_20 : decode cX3_laysBestOrder 20 = .ok (.iload_n 2, 1) := dk_28 (dk_at dksX3_laysBestOrder_0 20 rfl rfl)
theorem dX3_laysBestOrder_21 : decode cX3_laysBestOrder 21 = .ok (.iaload, 1) := dk_46 (dk_at dksX3_laysBestOrder_0 21 rfl rfl)
theorem dX3_laysBestOrder_22 : decode cX3_laysBestOrder 22 = .ok (.iastore, 1) := dk_79 (dk_at dksX3_laysBestOrder_0 22 rfl rfl)
theorem dX3_laysBestOrder_23 : decode cX3_laysBestOrder 23 = .ok (.iinc 2 1, 3) := dk_132 2 1 (dk_at dksX3_laysBestOrder_1 0 rfl rfl)
theorem dX3_laysBestOrder_26 : decode cX3_laysBestOrder 26 = .ok (.goto (-22), 3) := dk_167 255 234 (dk_at dksX3_laysBestOrder_1 3 rfl rfl)
theorem dX3_laysBestOrder_29 : decode cX3_laysBestOrder 29 = .ok (.aload_n 0, 1) := dk_42 (dk_at dksX3_laysBestOrder_1 6 rfl rfl)
theorem dX3_laysBestOrder_30 : decode cX3_laysBestOrder 30 = .ok (.invokevirtual 100, 3) := dk_182 0 100 (dk_at dksX3_laysBestOrder_1 7 rfl rfl)
theorem dX3_laysBestOrder_33 : decode cX3_laysBestOrder 33 = .ok (.iconst 0, 1) := dk_3 (dk_at dksX3_laysBestOrder_1 10 rfl rfl)
theorem dX3_laysBestOrder_34 : decode cX3_laysBestOrder 34 = .ok (.istore_n 2, 1) := dk_61 (dk_at dksX3_laysBestOrder_1 11 rfl rfl)
theorem dX3_laysBestOrder_35 : decode cX3_laysBestOrder 35 = .ok (.iload_n 2, 1) := dk_28 (dk_at dksX3_laysBestOrder_1 12 rfl rfl)
theorem dX3_laysBestOrder_36 : decode cX3_laysBestOrder 36 = .ok (.aload_n 0, 1) := dk_42 (dk_at dksX3_laysBestOrder_1 13 rfl rfl)
theorem dX3_laysBestOrder_37 : decode cX3_laysBestOrder 37 = .ok (.getfield 83, 3) := dk_180 0 83 (dk_at dksX3_laysBestOrder_1 14 rfl rfl)
theorem dX3_laysBestOrder_40 : decode cX3_laysBestOrder 40 = .ok (.if_icmp .ge 16, 3) := dk_162 0 16 (dk_at dksX3_laysBestOrder_1 17 rfl rfl)
theorem dX3_laysBestOrder_43 : decode cX3_laysBestOrder 43 = .ok (.aload_n 0, 1) := dk_42 (dk_at dksX3_laysBestOrder_1 20 rfl rfl)
theorem dX3_laysBestOrder_44 : decode cX3_laysBestOrder 44 = .ok (.getfield 28, 3) := dk_180 0 28 (dk_at dksX3_laysBestOrder_1 21 rfl rfl)
theorem dX3_laysBestOrder_47 : decode cX3_laysBestOrder 47 = .ok (.iload_n 2, 1) := dk_28 (dk_at dksX3_laysBestOrder_2 0 rfl rfl)
theorem dX3_laysBestOrder_48 : decode cX3_laysBestOrder 48 = .ok (.iload_n 2, 1) := dk_28 (dk_at dksX3_laysBestOrder_2 1 rfl rfl)
theorem dX3_laysBestOrder_49 : decode cX3_laysBestOrder 49 = .ok (.iastore, 1) := dk_79 (dk_at dksX3_laysBestOrder_2 2 rfl rfl)
theorem dX3_laysBestOrder_50 : decode cX3_laysBestOrder 50 = .ok (.iinc 2 1, 3) := dk_132 2 1 (dk_at dksX3_laysBestOrder_2 3 rfl rfl)
theorem dX3_laysBestOrder_53 : decode cX3_laysBestOrder 53 = .ok (.goto (-18), 3) := dk_167 255 238 (dk_at dksX3_laysBestOrder_2 6 rfl rfl)
theorem dX3_laysBestOrder_56 : decode cX3_laysBestOrder 56 = .ok (.iconst 1, 1) := dk_4 (dk_at dksX3_laysBestOrder_2 9 rfl rfl)
theorem dX3_laysBestOrder_57 : decode cX3_laysBestOrder 57 = .ok (.istore_n 2, 1) := dk_61 (dk_at dksX3_laysBestOrder_2 10 rfl rfl)
theorem dX3_laysBestOrder_58 : decode cX3_laysBestOrder 58 = .ok (.iload_n 2, 1) := dk_28 (dk_at dksX3_laysBestOrder_2 11 rfl rfl)
theorem dX3_laysBestOrder_59 : decode cX3_laysBestOrder 59 = .ok (.ifCond .eq 128, 3) := dk_153 0 128 (dk_at dksX3_laysBestOrder_2 12 rfl rfl)
theorem dX3_laysBestOrder_62 : decode cX3_laysBestOrder 62 = .ok (.aload_n 0, 1) := dk_42 (dk_at dksX3_laysBestOrder_2 15 rfl rfl)
theorem dX3_laysBestOrder_63 : decode cX3_laysBestOrder 63 = .ok (.aload_n 0, 1) := dk_42 (dk_at dksX3_laysBestOrder_2 16 rfl rfl)
theorem dX3_laysBestOrder_64 : decode cX3_laysBestOrder 64 = .ok (.getfield 25, 3) := dk_180 0 25 (dk_at dksX3_laysBestOrder_2 17 rfl rfl)
theorem dX3_laysBestOrder_67 : decode cX3_laysBestOrder 67 = .ok (.invokevirtual 103, 3) := dk_182 0 103 (dk_at dksX3_laysBestOrder_2 20 rfl rfl)
theorem dX3_laysBestOrder_70 : decode cX3_laysBestOrder 70 = .ok (.aload_n 0, 1) := dk_42 (dk_at dksX3_laysBestOrder_2 23 rfl rfl)
theorem dX3_laysBestOrder_71 : decode cX3_laysBestOrder 71 = .ok (.getfield 83, 3) := dk_180 0 83 (dk_at dksX3_laysBestOrder_3 0 rfl rfl)
theorem dX3_laysBestOrder_74 : decode cX3_laysBestOrder 74 = .ok (.if_icmp .ne 7, 3) := dk_160 0 7 (dk_at dksX3_laysBestOrder_3 3 rfl rfl)
theorem dX3_laysBestOrder_77 : decode cX3_laysBestOrder 77 = .ok (.iconst 1, 1) := dk_4 (dk_at dksX3_laysBestOrder_3 6 rfl rfl)
theorem dX3_laysBestOrder_78 : decode cX3_laysBestOrder 78 = .ok (.goto 4, 3) := dk_167 0 4 (dk_at dksX3_laysBestOrder_3 7 rfl rfl)
theorem dX3_laysBestOrder_81 : decode cX3_laysBestOrder 81 = .ok (.iconst 0, 1) := dk_3 (dk_at dksX3_laysBestOrder_3 10 rfl rfl)
theorem dX3_laysBestOrder_82 : decode cX3_laysBestOrder 82 = .ok (.istore_n 3, 1) := dk_62 (dk_at dksX3_laysBestOrder_3 11 rfl rfl)
theorem dX3_laysBestOrder_83 : decode cX3_laysBestOrder 83 = .ok (.aload_n 0, 1) := dk_42 (dk_at dksX3_laysBestOrder_3 12 rfl rfl)
theorem dX3_laysBestOrder_84 : decode cX3_laysBestOrder 84 = .ok (.getfield 7, 3) := dk_180 0 7 (dk_at dksX3_laysBestOrder_3 13 rfl rfl)
theorem dX3_laysBestOrder_87 : decode cX3_laysBestOrder 87 = .ok (.iconst 4, 1) := dk_7 (dk_at dksX3_laysBestOrder_3 16 rfl rfl)
theorem dX3_laysBestOrder_88 : decode cX3_laysBestOrder 88 = .ok (.iaload, 1) := dk_46 (dk_at dksX3_laysBestOrder_3 17 rfl rfl)
theorem dX3_laysBestOrder_89 : decode cX3_laysBestOrder 89 = .ok (.aload_n 0, 1) := dk_42 (dk_at dksX3_laysBestOrder_3 18 rfl rfl)
theorem dX3_laysBestOrder_90 : decode cX3_laysBestOrder 90 = .ok (.getfield 35, 3) := dk_180 0 35 (dk_at dksX3_laysBestOrder_3 19 rfl rfl)
theorem dX3_laysBestOrder_93 : decode cX3_laysBestOrder 93 = .ok (.iconst 4, 1) := dk_7 (dk_at dksX3_laysBestOrder_3 22 rfl rfl)
theorem dX3_laysBestOrder_94 : decode cX3_laysBestOrder 94 = .ok (.iaload, 1) := dk_46 (dk_at dksX3_laysBestOrder_3 23 rfl rfl)
theorem dX3_laysBestOrder_95 : decode cX3_laysBestOrder 95 = .ok (.isub, 1) := dk_100 (dk_at dksX3_laysBestOrder_4 0 rfl rfl)
theorem dX3_laysBestOrder_96 : decode cX3_laysBestOrder 96 = .ok (.istore 4, 2) := dk_54 4 (dk_at dksX3_laysBestOrder_4 1 rfl rfl)
theorem dX3_laysBestOrder_98 : decode cX3_laysBestOrder 98 = .ok (.iconst 0, 1) := dk_3 (dk_at dksX3_laysBestOrder_4 3 rfl rfl)
theorem dX3_laysBestOrder_99 : decode cX3_laysBestOrder 99 = .ok (.istore 5, 2) := dk_54 5 (dk_at dksX3_laysBestOrder_4 4 rfl rfl)
theorem dX3_laysBestOrder_101 : decode cX3_laysBestOrder 101 = .ok (.iload 5, 2) := dk_21 5 (dk_at dksX3_laysBestOrder_4 6 rfl rfl)
theorem dX3_laysBestOrder_103 : decode cX3_laysBestOrder 103 = .ok (.sipush 142, 3) := dk_17 0 142 (dk_at dksX3_laysBestOrder_4 8 rfl rfl)
theorem dX3_laysBestOrder_106 : decode cX3_laysBestOrder 106 = .ok (.if_icmp .ge 23, 3) := dk_162 0 23 (dk_at dksX3_laysBestOrder_4 11 rfl rfl)
theorem dX3_laysBestOrder_109 : decode cX3_laysBestOrder 109 = .ok (.aload_n 0, 1) := dk_42 (dk_at dksX3_laysBestOrder_4 14 rfl rfl)
theorem dX3_laysBestOrder_110 : decode cX3_laysBestOrder 110 = .ok (.getfield 7, 3) := dk_180 0 7 (dk_at dksX3_laysBestOrder_4 15 rfl rfl)
theorem dX3_laysBestOrder_113 : decode cX3_laysBestOrder 113 = .ok (.iload 5, 2) := dk_21 5 (dk_at dksX3_laysBestOrder_4 18 rfl rfl)
theorem dX3_laysBestOrder_115 : decode cX3_laysBestOrder 115 = .ok (.aload_n 0, 1) := dk_42 (dk_at dksX3_laysBestOrder_4 20 rfl rfl)
theorem dX3_laysBestOrder_116 : decode cX3_laysBestOrder 116 = .ok (.getfield 35, 3) := dk_180 0 35 (dk_at dksX3_laysBestOrder_4 21 rfl rfl)
theorem dX3_laysBestOrder_119 : decode cX3_laysBestOrder 119 = .ok (.iload 5, 2) := dk_21 5 (dk_at dksX3_laysBestOrder_5 0 rfl rfl)
theorem dX3_laysBestOrder_121 : decode cX3_laysBestOrder 121 = .ok (.iaload, 1) := dk_46 (dk_at dksX3_laysBestOrder_5 2 rfl rfl)
theorem dX3_laysBestOrder_122 : decode cX3_laysBestOrder 122 = .ok (.iastore, 1) := dk_79 (dk_at dksX3_laysBestOrder_5 3 rfl rfl)
theorem dX3_laysBestOrder_123 : decode cX3_laysBestOrder 123 = .ok (.iinc 5 1, 3) := dk_132 5 1 (dk_at dksX3_laysBestOrder_5 4 rfl rfl)
theorem dX3_laysBestOrder_126 : decode cX3_laysBestOrder 126 = .ok (.goto (-25), 3) := dk_167 255 231 (dk_at dksX3_laysBestOrder_5 7 rfl rfl)
theorem dX3_laysBestOrder_129 : decode cX3_laysBestOrder 129 = .ok (.iload_n 3, 1) := dk_29 (dk_at dksX3_laysBestOrder_5 10 rfl rfl)
theorem dX3_laysBestOrder_130 : decode cX3_laysBestOrder 130 = .ok (.ifCond .eq 49, 3) := dk_153 0 49 (dk_at dksX3_laysBestOrder_5 11 rfl rfl)
theorem dX3_laysBestOrder_133 : decode cX3_laysBestOrder 133 = .ok (.iload_n 1, 1) := dk_27 (dk_at dksX3_laysBestOrder_5 14 rfl rfl)
theorem dX3_laysBestOrder_134 : decode cX3_laysBestOrder 134 = .ok (.iconst (-1), 1) := dk_2 (dk_at dksX3_laysBestOrder_5 15 rfl rfl)
theorem dX3_laysBestOrder_135 : decode cX3_laysBestOrder 135 = .ok (.if_icmp .eq 9, 3) := dk_159 0 9 (dk_at dksX3_laysBestOrder_5 16 rfl rfl)
theorem dX3_laysBestOrder_138 : decode cX3_laysBestOrder 138 = .ok (.iload 4, 2) := dk_21 4 (dk_at dksX3_laysBestOrder_5 19 rfl rfl)
theorem dX3_laysBestOrder_140 : decode cX3_laysBestOrder 140 = .ok (.iload_n 1, 1) := dk_27 (dk_at dksX3_laysBestOrder_5 21 rfl rfl)
theorem dX3_laysBestOrder_141 : decode cX3_laysBestOrder 141 = .ok (.if_icmp .ge 38, 3) := dk_162 0 38 (dk_at dksX3_laysBestOrder_6 0 rfl rfl)
theorem dX3_laysBestOrder_144 : decode cX3_laysBestOrder 144 = .ok (.iload 4, 2) := dk_21 4 (dk_at dksX3_laysBestOrder_6 3 rfl rfl)
theorem dX3_laysBestOrder_146 : decode cX3_laysBestOrder 146 = .ok (.istore_n 1, 1) := dk_60 (dk_at dksX3_laysBestOrder_6 5 rfl rfl)
theorem dX3_laysBestOrder_147 : decode cX3_laysBestOrder 147 = .ok (.iconst 0, 1) := dk_3 (dk_at dksX3_laysBestOrder_6 6 rfl rfl)
theorem dX3_laysBestOrder_148 : decode cX3_laysBestOrder 148 = .ok (.istore 5, 2) := dk_54 5 (dk_at dksX3_laysBestOrder_6 7 rfl rfl)
theorem dX3_laysBestOrder_150 : decode cX3_laysBestOrder 150 = .ok (.iload 5, 2) := dk_21 5 (dk_at dksX3_laysBestOrder_6 9 rfl rfl)
theorem dX3_laysBestOrder_152 : decode cX3_laysBestOrder 152 = .ok (.aload_n 0, 1) := dk_42 (dk_at dksX3_laysBestOrder_6 11 rfl rfl)
theorem dX3_laysBestOrder_153 : decode cX3_laysBestOrder 153 = .ok (.getfield 83, 3) := dk_180 0 83 (dk_at dksX3_laysBestOrder_6 12 rfl rfl)
theorem dX3_laysBestOrder_156 : decode cX3_laysBestOrder 156 = .ok (.if_icmp .ge 23, 3) := dk_162 0 23 (dk_at dksX3_laysBestOrder_6 15 rfl rfl)
theorem dX3_laysBestOrder_159 : decode cX3_laysBestOrder 159 = .ok (.aload_n 0, 1) := dk_42 (dk_at dksX3_laysBestOrder_6 18 rfl rfl)
theorem dX3_laysBestOrder_160 : decode cX3_laysBestOrder 160 = .ok (.getfield 28, 3) := dk_180 0 28 (dk_at dksX3_laysBestOrder_6 19 rfl rfl)
theorem dX3_laysBestOrder_163 : decode cX3_laysBestOrder 163 = .ok (.iload 5, 2) := dk_21 5 (dk_at dksX3_laysBestOrder_6 22 rfl rfl)
theorem dX3_laysBestOrder_165 : decode cX3_laysBestOrder 165 = .ok (.aload_n 0, 1) := dk_42 (dk_at dksX3_laysBestOrder_7 0 rfl rfl)
theorem dX3_laysBestOrder_166 : decode cX3_laysBestOrder 166 = .ok (.getfield 25, 3) := dk_180 0 25 (dk_at dksX3_laysBestOrder_7 1 rfl rfl)
theorem dX3_laysBestOrder_169 : decode cX3_laysBestOrder 169 = .ok (.iload 5, 2) := dk_21 5 (dk_at dksX3_laysBestOrder_7 4 rfl rfl)
theorem dX3_laysBestOrder_171 : decode cX3_laysBestOrder 171 = .ok (.iaload, 1) := dk_46 (dk_at dksX3_laysBestOrder_7 6 rfl rfl)
theorem dX3_laysBestOrder_172 : decode cX3_laysBestOrder 172 = .ok (.iastore, 1) := dk_79 (dk_at dksX3_laysBestOrder_7 7 rfl rfl)
theorem dX3_laysBestOrder_173 : decode cX3_laysBestOrder 173 = .ok (.iinc 5 1, 3) := dk_132 5 1 (dk_at dksX3_laysBestOrder_7 8 rfl rfl)
theorem dX3_laysBestOrder_176 : decode cX3_laysBestOrder 176 = .ok (.goto (-26), 3) := dk_167 255 230 (dk_at dksX3_laysBestOrder_7 11 rfl rfl)
theorem dX3_laysBestOrder_179 : decode cX3_laysBestOrder 179 = .ok (.aload_n 0, 1) := dk_42 (dk_at dksX3_laysBestOrder_7 14 rfl rfl)
theorem dX3_laysBestOrder_180 : decode cX3_laysBestOrder 180 = .ok (.invokevirtual 107, 3) := dk_182 0 107 (dk_at dksX3_laysBestOrder_7 15 rfl rfl)
theorem dX3_laysBestOrder_183 : decode cX3_laysBestOrder 183 = .ok (.istore_n 2, 1) := dk_61 (dk_at dksX3_laysBestOrder_7 18 rfl rfl)
theorem dX3_laysBestOrder_184 : decode cX3_laysBestOrder 184 = .ok (.goto (-126), 3) := dk_167 255 130 (dk_at dksX3_laysBestOrder_7 19 rfl rfl)
theorem dX3_laysBestOrder_187 : decode cX3_laysBestOrder 187 = .ok (.return_, 1) := dk_177 (dk_at dksX3_laysBestOrder_7 22 rfl rfl)
abbrev cX3_firstOrder : ByteArray := prog_8_method_26_code
def yX3_firstOrder : MethodName := ⟨RX3, "firstOrder", "()V"⟩
def dkwX3_firstOrder_0 : List UInt8 := [3, 60, 27, 42, 180, 0, 83, 162, 0, 16, 42, 180, 0, 25, 27, 27, 79, 132, 1, 1, 167, 255, 238, 177]
abbrev dktX3_firstOrder_0 : List UInt8 := dkwX3_firstOrder_0 ++ []
theorem dksX3_firstOrder_0 : cX3_firstOrder.data.toList.drop 0 = dktX3_firstOrder_0 := by decide +kernel
theorem dX3_firstOrder_0 : decode cX3_firstOrder 0 = .ok (.iconst 0, 1) := dk_3 (dk_at dksX3_firstOrder_0 0 rfl rfl)
theorem dX3_firstOrder_1 : decode cX3_firstOrder 1 = .ok (.istore_n 1, 1) := dk_60 (dk_at dksX3_firstOrder_0 1 rfl rfl)
theorem dX3_firstOrder_2 : decode cX3_firstOrder 2 = .ok (.iload_n 1, 1) := dk_27 (dk_at dksX3_firstOrder_0 2 rfl rfl)
theorem dX3_firstOrder_3 : decode cX3_firstOrder 3 = .ok (.aload_n 0, 1) := dk_42 (dk_at dksX3_firstOrder_0 3 rfl rfl)
theorem dX3_firstOrder_4 : decode cX3_firstOrder 4 = .ok (.getfield 83, 3) := dk_180 0 83 (dk_at dksX3_firstOrder_0 4 rfl rfl)
theorem dX3_firstOrder_7 : decode cX3_firstOrder 7 = .ok (.if_icmp .ge 16, 3) := dk_162 0 16 (dk_at dksX3_firstOrder_0 7 rfl rfl)
theorem dX3_firstOrder_10 : decode cX3_firstOrder 10 = .ok (.aload_n 0, 1) := dk_42 (dk_at dksX3_firstOrder_0 10 rfl rfl)
theorem dX3_firstOrder_11 : decode cX3_firstOrder 11 = .ok (.getfield 25, 3) := dk_180 0 25 (dk_at dksX3_firstOrder_0 11 rfl rfl)
theorem dX3_firstOrder_14 : decode cX3_firstOrder 14 = .ok (.iload_n 1, 1) := dk_27 (dk_at dksX3_firstOrder_0 14 rfl rfl)
theorem dX3_firstOrder_15 : decode cX3_firstOrder 15 = .ok (.iload_n 1, 1) := dk_27 (dk_at dksX3_firstOrder_0 15 rfl rfl)
theorem dX3_firstOrder_16 : decode cX3_firstOrder 16 = .ok (.iastore, 1) := dk_79 (dk_at dksX3_firstOrder_0 16 rfl rfl)
theorem dX3_firstOrder_17 : decode cX3_firstOrder 17 = .ok (.iinc 1 1, 3) := dk_132 1 1 (dk_at dksX3_firstOrder_0 17 rfl rfl)
theorem dX3_firstOrder_20 : decode cX3_firstOrder 20 = .ok (.goto (-18), 3) := dk_167 255 238 (dk_at dksX3_firstOrder_0 20 rfl rfl)
theorem dX3_firstOrder_23 : decode cX3_firstOrder 23 = .ok (.return_, 1) := dk_177 (dk_at dksX3_firstOrder_0 23 rfl rfl)
abbrev cX3_picksBy : ByteArray := prog_8_method_23_code
def yX3_picksBy : MethodName := ⟨RX3, "picksBy", "([I)I"⟩
def dkwX3_picksBy_1 : List UInt8 := [154, 0, 22, 42, 42, 180, 0, 22, 43, 28, 46, 46, 182, 0, 89, 87, 132, 2, 1, 167, 255, 217, 28, 172]
abbrev dktX3_picksBy_1 : List UInt8 := dkwX3_picksBy_1 ++ []
def dkwX3_picksBy_0 : List UInt8 := [3, 61, 28, 42, 180, 0, 83, 162, 0, 37, 42, 42, 180, 0, 22, 43, 28, 46, 46, 182, 0, 86]
abbrev dktX3_picksBy_0 : List UInt8 := dkwX3_picksBy_0 ++ dktX3_picksBy_1
theorem dksX3_picksBy_0 : cX3_picksBy.data.toList.drop 0 = dktX3_picksBy_0 := by decide +kernel
theorem dksX3_picksBy_1 : cX3_picksBy.data.toList.drop 22 = dktX3_picksBy_1 := dk_seg dksX3_picksBy_0 22 rfl rfl
theorem dX3_picksBy_0 : decode cX3_picksBy 0 = .ok (.iconst 0, 1) := dk_3 (dk_at dksX3_picksBy_0 0 rfl rfl)
theorem dX3_picksBy_1 : decode cX3_picksBy 1 = .ok (.istore_n 2, 1) := dk_61 (dk_at dksX3_picksBy_0 1 rfl rfl)
theorem dX3_picksBy_2 : decode cX3_picksBy 2 = .ok (.iload_n 2, 1) := dk_28 (dk_at dksX3_picksBy_0 2 rfl rfl)
theorem dX3_picksBy_3 : decode cX3_picksBy 3 = .ok (.aload_n 0, 1) := dk_42 (dk_at dksX3_picksBy_0 3 rfl rfl)
theorem dX3_picksBy_4 : decode cX3_picksBy 4 = .ok (.getfield 83, 3) := dk_180 0 83 (dk_at dksX3_picksBy_0 4 rfl rfl)
theorem dX3_picksBy_7 : decode cX3_picksBy 7 = .ok (.if_icmp .ge 37, 3) := dk_162 0 37 (dk_at dksX3_picksBy_0 7 rfl rfl)
theorem dX3_picksBy_10 : decode cX3_picksBy 10 = .ok (.aload_n 0, 1) := dk_42 (dk_at dksX3_picksBy_0 10 rfl rfl)
theorem dX3_picksBy_11 : decode cX3_picksBy 11 = .ok (.aload_n 0, 1) := dk_42 (dk_at dksX3_picksBy_0 11 rfl rfl)
theorem dX3_picksBy_12 : decode cX3_picksBy 12 = .ok (.getfield 22, 3) := dk_180 0 22 (dk_at dksX3_picksBy_0 12 rfl rfl)
theorem dX3_picksBy_15 : decode cX3_picksBy 15 = .ok (.aload_n 1, 1) := dk_43 (dk_at dksX3_picksBy_0 15 rfl rfl)
theorem dX3_picksBy_16 : decode cX3_picksBy 16 = .ok (.iload_n 2, 1) := dk_28 (dk_at dksX3_picksBy_0 16 rfl rfl)
theorem dX3_picksBy_17 : decode cX3_picksBy 17 = .ok (.iaload, 1) := dk_46 (dk_at dksX3_picksBy_0 17 rfl rfl)
theorem dX3_picksBy_18 : decode cX3_picksBy 18 = .ok (.iaload, 1) := dk_46 (dk_at dksX3_picksBy_0 18 rfl rfl)
theorem dX3_picksBy_19 : decode cX3_picksBy 19 = .ok (.invokevirtual 86, 3) := dk_182 0 86 (dk_at dksX3_picksBy_0 19 rfl rfl)
theorem dX3_picksBy_22 : decode cX3_picksBy 22 = .ok (.ifCond .ne 22, 3) := dk_154 0 22 (dk_at dksX3_picksBy_1 0 rfl rfl)
theorem dX3_picksBy_25 : decode cX3_picksBy 25 = .ok (.aload_n 0, 1) := dk_42 (dk_at dksX3_picksBy_1 3 rfl rfl)
theorem dX3_picksBy_26 : decode cX3_picksBy 26 = .ok (.aload_n 0, 1) := dk_42 (dk_at dksX3_picksBy_1 4 rfl rfl)
theorem dX3_picksBy_27 : decode cX3_picksBy 27 = .ok (.getfield 22, 3) := dk_180 0 22 (dk_at dksX3_picksBy_1 5 rfl rfl)
theorem dX3_picksBy_30 : decode cX3_picksBy 30 = .ok (.aload_n 1, 1) := dk_43 (dk_at dksX3_picksBy_1 8 rfl rfl)
theorem dX3_picksBy_31 : decode cX3_picksBy 31 = .ok (.iload_n 2, 1) := dk_28 (dk_at dksX3_picksBy_1 9 rfl rfl)
theorem dX3_picksBy_32 : decode cX3_picksBy 32 = .ok (.iaload, 1) := dk_46 (dk_at dksX3_picksBy_1 10 rfl rfl)
theorem dX3_picksBy_33 : decode cX3_picksBy 33 = .ok (.iaload, 1) := dk_46 (dk_at dksX3_picksBy_1 11 rfl rfl)
theorem dX3_picksBy_34 : decode cX3_picksBy 34 = .ok (.invokevirtual 89, 3) := dk_182 0 89 (dk_at dksX3_picksBy_1 12 rfl rfl)
theorem dX3_picksBy_37 : decode cX3_picksBy 37 = .ok (.pop, 1) := dk_87 (dk_at dksX3_picksBy_1 15 rfl rfl)
theorem dX3_picksBy_38 : decode cX3_picksBy 38 = .ok (.iinc 2 1, 3) := dk_132 2 1 (dk_at dksX3_picksBy_1 16 rfl rfl)
theorem dX3_picksBy_41 : decode cX3_picksBy 41 = .ok (.goto (-39), 3) := dk_167 255 217 (dk_at dksX3_picksBy_1 19 rfl rfl)
theorem dX3_picksBy_44 : decode cX3_picksBy 44 = .ok (.iload_n 2, 1) := dk_28 (dk_at dksX3_picksBy_1 22 rfl rfl)
theorem dX3_picksBy_45 : decode cX3_picksBy 45 = .ok (.ireturn, 1) := dk_172 (dk_at dksX3_picksBy_1 23 rfl rfl)
abbrev cX3_hasNextOrder : ByteArray := prog_8_method_28_code
def yX3_hasNextOrder : MethodName := ⟨RX3, "hasNextOrder", "()Z"⟩
def dkwX3_hasNextOrder_4 : List UInt8 := [180, 0, 83, 29, 100, 182, 0, 96, 132, 3, 1, 167, 255, 228, 4, 172]
abbrev dktX3_hasNextOrder_4 : List UInt8 := dkwX3_hasNextOrder_4 ++ []
def dkwX3_hasNextOrder_3 : List UInt8 := [182, 0, 96, 4, 62, 27, 29, 96, 42, 180, 0, 83, 29, 100, 162, 0, 22, 42, 27, 29, 96, 42]
abbrev dktX3_hasNextOrder_3 : List UInt8 := dkwX3_hasNextOrder_3 ++ dktX3_hasNextOrder_4
def dkwX3_hasNextOrder_2 : List UInt8 := [180, 0, 25, 28, 46, 42, 180, 0, 25, 27, 46, 162, 0, 9, 132, 2, 255, 167, 255, 238, 42, 27, 28]
abbrev dktX3_hasNextOrder_2 : List UInt8 := dkwX3_hasNextOrder_2 ++ dktX3_hasNextOrder_3
def dkwX3_hasNextOrder_1 : List UInt8 := [46, 164, 0, 9, 132, 1, 255, 167, 255, 232, 27, 156, 0, 5, 3, 172, 42, 180, 0, 83, 4, 100, 61, 42]
abbrev dktX3_hasNextOrder_1 : List UInt8 := dkwX3_hasNextOrder_1 ++ dktX3_hasNextOrder_2
def dkwX3_hasNextOrder_0 : List UInt8 := [42, 180, 0, 83, 5, 100, 60, 27, 155, 0, 26, 42, 180, 0, 25, 27, 46, 42, 180, 0, 25, 27, 4, 96]
abbrev dktX3_hasNextOrder_0 : List UInt8 := dkwX3_hasNextOrder_0 ++ dktX3_hasNextOrder_1
theorem dksX3_hasNextOrder_0 : cX3_hasNextOrder.data.toList.drop 0 = dktX3_hasNextOrder_0 := by decide +kernel
theorem dksX3_hasNextOrder_1 : cX3_hasNextOrder.data.toList.drop 24 = dktX3_hasNextOrder_1 := dk_seg dksX3_hasNextOrder_0 24 rfl rfl
theorem dksX3_hasNextOrder_2 : cX3_hasNextOrder.data.toList.drop 48 = dktX3_hasNextOrder_2 := dk_seg dksX3_hasNextOrder_1 24 rfl rfl
theorem dksX3_hasNextOrder_3 : cX3_hasNextOrder.data.toList.drop 71 = dktX3_hasNextOrder_3 := dk_seg dksX3_hasNextOrder_2 23 rfl rfl
theorem dksX3_hasNextOrder_4 : cX3_hasNextOrder.data.toList.drop 93 = dktX3_hasNextOrder_4 := dk_seg dksX3_hasNextOrder_3 22 rfl rfl
theorem dX3_hasNextOrder_0 : decode cX3_hasNextOrder 0 = .ok (.aload_n 0, 1) := dk_42 (dk_at dksX3_hasNextOrder_0 0 rfl rfl)
theorem dX3_hasNextOrder_1 : decode cX3_hasNextOrder 1 = .ok (.getfield 83, 3) := dk_180 0 83 (dk_at dksX3_hasNextOrder_0 1 rfl rfl)
theorem dX3_hasNextOrder_4 : decode cX3_hasNextOrder 4 = .ok (.iconst 2, 1) := dk_5 (dk_at dksX3_hasNextOrder_0 4 rfl rfl)
theorem dX3_hasNextOrder_5 : decode cX3_hasNextOrder 5 = .ok (.isub, 1) := dk_100 (dk_at dksX3_hasNextOrder_0 5 rfl rfl)
theorem dX3_hasNextOrder_6 : decode cX3_hasNextOrder 6 = .ok (.istore_n 1, 1) := dk_60 (dk_at dksX3_hasNextOrder_0 6 rfl rfl)
theorem dX3_hasNextOrder_7 : decode cX3_hasNextOrder 7 = .ok (.iload_n 1, 1) := dk_27 (dk_at dksX3_hasNextOrder_0 7 rfl rfl)
theorem dX3_hasNextOrder_8 : decode cX3_hasNextOrder 8 = .ok (.ifCond .lt 26, 3) := dk_155 0 26 (dk_at dksX3_hasNextOrder_0 8 rfl rfl)
theorem dX3_hasNextOrder_11 : decode cX3_hasNextOrder 11 = .ok (.aload_n 0, 1) := dk_42 (dk_at dksX3_hasNextOrder_0 11 rfl rfl)
theorem dX3_hasNextOrder_12 : decode cX3_hasNextOrder 12 = .ok (.getfield 25, 3) := dk_180 0 25 (dk_at dksX3_hasNextOrder_0 12 rfl rfl)
theorem dX3_hasNextOrder_15 : decode cX3_hasNextOrder 15 = .ok (.iload_n 1, 1) := dk_27 (dk_at dksX3_hasNextOrder_0 15 rfl rfl)
theorem dX3_hasNextOrder_16 : decode cX3_hasNextOrder 16 = .ok (.iaload, 1) := dk_46 (dk_at dksX3_hasNextOrder_0 16 rfl rfl)
theorem dX3_hasNextOrder_17 : decode cX3_hasNextOrder 17 = .ok (.aload_n 0, 1) := dk_42 (dk_at dksX3_hasNextOrder_0 17 rfl rfl)
theorem dX3_hasNextOrder_18 : decode cX3_hasNextOrder 18 = .ok (.getfield 25, 3) := dk_180 0 25 (dk_at dksX3_hasNextOrder_0 18 rfl rfl)
theorem dX3_hasNextOrder_21 : decode cX3_hasNextOrder 21 = .ok (.iload_n 1, 1) := dk_27 (dk_at dksX3_hasNextOrder_0 21 rfl rfl)
theorem dX3_hasNextOrder_22 : decode cX3_hasNextOrder 22 = .ok (.iconst 1, 1) := dk_4 (dk_at dksX3_hasNextOrder_0 22 rfl rfl)
theorem dX3_hasNextOrder_23 : decode cX3_hasNextOrder 23 = .ok (.iadd, 1) := dk_96 (dk_at dksX3_hasNextOrder_0 23 rfl rfl)
theorem dX3_hasNextOrder_24 : decode cX3_hasNextOrder 24 = .ok (.iaload, 1) := dk_46 (dk_at dksX3_hasNextOrder_1 0 rfl rfl)
theorem dX3_hasNextOrder_25 : decode cX3_hasNextOrder 25 = .ok (.if_icmp .le 9, 3) := dk_164 0 9 (dk_at dksX3_hasNextOrder_1 1 rfl rfl)
theorem dX3_hasNextOrder_28 : decode cX3_hasNextOrder 28 = .ok (.iinc 1 (-1), 3) := dk_132 1 255 (dk_at dksX3_hasNextOrder_1 4 rfl rfl)
theorem dX3_hasNextOrder_31 : decode cX3_hasNextOrder 31 = .ok (.goto (-24), 3) := dk_167 255 232 (dk_at dksX3_hasNextOrder_1 7 rfl rfl)
theorem dX3_hasNextOrder_34 : decode cX3_hasNextOrder 34 = .ok (.iload_n 1, 1) := dk_27 (dk_at dksX3_hasNextOrder_1 10 rfl rfl)
theorem dX3_hasNextOrder_35 : decode cX3_hasNextOrder 35 = .ok (.ifCond .ge 5, 3) := dk_156 0 5 (dk_at dksX3_hasNextOrder_1 11 rfl rfl)
theorem dX3_hasNextOrder_38 : decode cX3_hasNextOrder 38 = .ok (.iconst 0, 1) := dk_3 (dk_at dksX3_hasNextOrder_1 14 rfl rfl)
theorem dX3_hasNextOrder_39 : decode cX3_hasNextOrder 39 = .ok (.ireturn, 1) := dk_172 (dk_at dksX3_hasNextOrder_1 15 rfl rfl)
theorem dX3_hasNextOrder_40 : decode cX3_hasNextOrder 40 = .ok (.aload_n 0, 1) := dk_42 (dk_at dksX3_hasNextOrder_1 16 rfl rfl)
theorem dX3_hasNextOrder_41 : decode cX3_hasNextOrder 41 = .ok (.getfield 83, 3) := dk_180 0 83 (dk_at dksX3_hasNextOrder_1 17 rfl rfl)
theorem dX3_hasNextOrder_44 : decode cX3_hasNextOrder 44 = .ok (.iconst 1, 1) := dk_4 (dk_at dksX3_hasNextOrder_1 20 rfl rfl)
theorem dX3_hasNextOrder_45 : decode cX3_hasNextOrder 45 = .ok (.isub, 1) := dk_100 (dk_at dksX3_hasNextOrder_1 21 rfl rfl)
theorem dX3_hasNextOrder_46 : decode cX3_hasNextOrder 46 = .ok (.istore_n 2, 1) := dk_61 (dk_at dksX3_hasNextOrder_1 22 rfl rfl)
theorem dX3_hasNextOrder_47 : decode cX3_hasNextOrder 47 = .ok (.aload_n 0, 1) := dk_42 (dk_at dksX3_hasNextOrder_1 23 rfl rfl)
theorem dX3_hasNextOrder_48 : decode cX3_hasNextOrder 48 = .ok (.getfield 25, 3) := dk_180 0 25 (dk_at dksX3_hasNextOrder_2 0 rfl rfl)
theorem dX3_hasNextOrder_51 : decode cX3_hasNextOrder 51 = .ok (.iload_n 2, 1) := dk_28 (dk_at dksX3_hasNextOrder_2 3 rfl rfl)
theorem dX3_hasNextOrder_52 : decode cX3_hasNextOrder 52 = .ok (.iaload, 1) := dk_46 (dk_at dksX3_hasNextOrder_2 4 rfl rfl)
theorem dX3_hasNextOrder_53 : decode cX3_hasNextOrder 53 = .ok (.aload_n 0, 1) := dk_42 (dk_at dksX3_hasNextOrder_2 5 rfl rfl)
theorem dX3_hasNextOrder_54 : decode cX3_hasNextOrder 54 = .ok (.getfield 25, 3) := dk_180 0 25 (dk_at dksX3_hasNextOrder_2 6 rfl rfl)
theorem dX3_hasNextOrder_57 : decode cX3_hasNextOrder 57 = .ok (.iload_n 1, 1) := dk_27 (dk_at dksX3_hasNextOrder_2 9 rfl rfl)
theorem dX3_hasNextOrder_58 : decode cX3_hasNextOrder 58 = .ok (.iaload, 1) := dk_46 (dk_at dksX3_hasNextOrder_2 10 rfl rfl)
theorem dX3_hasNextOrder_59 : decode cX3_hasNextOrder 59 = .ok (.if_icmp .ge 9, 3) := dk_162 0 9 (dk_at dksX3_hasNextOrder_2 11 rfl rfl)
theorem dX3_hasNextOrder_62 : decode cX3_hasNextOrder 62 = .ok (.iinc 2 (-1), 3) := dk_132 2 255 (dk_at dksX3_hasNextOrder_2 14 rfl rfl)
theorem dX3_hasNextOrder_65 : decode cX3_hasNextOrder 65 = .ok (.goto (-18), 3) := dk_167 255 238 (dk_at dksX3_hasNextOrder_2 17 rfl rfl)
theorem dX3_hasNextOrder_68 : decode cX3_hasNextOrder 68 = .ok (.aload_n 0, 1) := dk_42 (dk_at dksX3_hasNextOrder_2 20 rfl rfl)
theorem dX3_hasNextOrder_69 : decode cX3_hasNextOrder 69 = .ok (.iload_n 1, 1) := dk_27 (dk_at dksX3_hasNextOrder_2 21 rfl rfl)
theorem dX3_hasNextOrder_70 : decode cX3_hasNextOrder 70 = .ok (.iload_n 2, 1) := dk_28 (dk_at dksX3_hasNextOrder_2 22 rfl rfl)
theorem dX3_hasNextOrder_71 : decode cX3_hasNextOrder 71 = .ok (.invokevirtual 96, 3) := dk_182 0 96 (dk_at dksX3_hasNextOrder_3 0 rfl rfl)
theorem dX3_hasNextOrder_74 : decode cX3_hasNextOrder 74 = .ok (.iconst 1, 1) := dk_4 (dk_at dksX3_hasNextOrder_3 3 rfl rfl)
theorem dX3_hasNextOrder_75 : decode cX3_hasNextOrder 75 = .ok (.istore_n 3, 1) := dk_62 (dk_at dksX3_hasNextOrder_3 4 rfl rfl)
theorem dX3_hasNextOrder_76 : decode cX3_hasNextOrder 76 = .ok (.iload_n 1, 1) := dk_27 (dk_at dksX3_hasNextOrder_3 5 rfl rfl)
theorem dX3_hasNextOrder_77 : decode cX3_hasNextOrder 77 = .ok (.iload_n 3, 1) := dk_29 (dk_at dksX3_hasNextOrder_3 6 rfl rfl)
theorem dX3_hasNextOrder_78 : decode cX3_hasNextOrder 78 = .ok (.iadd, 1) := dk_96 (dk_at dksX3_hasNextOrder_3 7 rfl rfl)
theorem dX3_hasNextOrder_79 : decode cX3_hasNextOrder 79 = .ok (.aload_n 0, 1) := dk_42 (dk_at dksX3_hasNextOrder_3 8 rfl rfl)
theorem dX3_hasNextOrder_80 : decode cX3_hasNextOrder 80 = .ok (.getfield 83, 3) := dk_180 0 83 (dk_at dksX3_hasNextOrder_3 9 rfl rfl)
theorem dX3_hasNextOrder_83 : decode cX3_hasNextOrder 83 = .ok (.iload_n 3, 1) := dk_29 (dk_at dksX3_hasNextOrder_3 12 rfl rfl)
theorem dX3_hasNextOrder_84 : decode cX3_hasNextOrder 84 = .ok (.isub, 1) := dk_100 (dk_at dksX3_hasNextOrder_3 13 rfl rfl)
theorem dX3_hasNextOrder_85 : decode cX3_hasNextOrder 85 = .ok (.if_icmp .ge 22, 3) := dk_162 0 22 (dk_at dksX3_hasNextOrder_3 14 rfl rfl)
theorem dX3_hasNextOrder_88 : decode cX3_hasNextOrder 88 = .ok (.aload_n 0, 1) := dk_42 (dk_at dksX3_hasNextOrder_3 17 rfl rfl)
theorem dX3_hasNextOrder_89 : decode cX3_hasNextOrder 89 = .ok (.iload_n 1, 1) := dk_27 (dk_at dksX3_hasNextOrder_3 18 rfl rfl)
theorem dX3_hasNextOrder_90 : decode cX3_hasNextOrder 90 = .ok (.iload_n 3, 1) := dk_29 (dk_at dksX3_hasNextOrder_3 19 rfl rfl)
theorem dX3_hasNextOrder_91 : decode cX3_hasNextOrder 91 = .ok (.iadd, 1) := dk_96 (dk_at dksX3_hasNextOrder_3 20 rfl rfl)
theorem dX3_hasNextOrder_92 : decode cX3_hasNextOrder 92 = .ok (.aload_n 0, 1) := dk_42 (dk_at dksX3_hasNextOrder_3 21 rfl rfl)
theorem dX3_hasNextOrder_93 : decode cX3_hasNextOrder 93 = .ok (.getfield 83, 3) := dk_180 0 83 (dk_at dksX3_hasNextOrder_4 0 rfl rfl)
theorem dX3_hasNextOrder_96 : decode cX3_hasNextOrder 96 = .ok (.iload_n 3, 1) := dk_29 (dk_at dksX3_hasNextOrder_4 3 rfl rfl)
theorem dX3_hasNextOrder_97 : decode cX3_hasNextOrder 97 = .ok (.isub, 1) := dk_100 (dk_at dksX3_hasNextOrder_4 4 rfl rfl)
theorem dX3_hasNextOrder_98 : decode cX3_hasNextOrder 98 = .ok (.invokevirtual 96, 3) := dk_182 0 96 (dk_at dksX3_hasNextOrder_4 5 rfl rfl)
theorem dX3_hasNextOrder_101 : decode cX3_hasNextOrder 101 = .ok (.iinc 3 1, 3) := dk_132 3 1 (dk_at dksX3_hasNextOrder_4 8 rfl rfl)
theorem dX3_hasNextOrder_104 : decode cX3_hasNextOrder 104 = .ok (.goto (-28), 3) := dk_167 255 228 (dk_at dksX3_hasNextOrder_4 11 rfl rfl)
theorem dX3_hasNextOrder_107 : decode cX3_hasNextOrder 107 = .ok (.iconst 1, 1) := dk_4 (dk_at dksX3_hasNextOrder_4 14 rfl rfl)
theorem dX3_hasNextOrder_108 : decode cX3_hasNextOrder 108 = .ok (.ireturn, 1) := dk_172 (dk_at dksX3_hasNextOrder_4 15 rfl rfl)
abbrev cX3_swaps : ByteArray := prog_8_method_27_code
def yX3_swaps : MethodName := ⟨RX3, "swaps", "(II)V"⟩
def dkwX3_swaps_1 : List UInt8 := [29, 79, 177]
abbrev dktX3_swaps_1 : List UInt8 := dkwX3_swaps_1 ++ []
def dkwX3_swaps_0 : List UInt8 := [42, 180, 0, 25, 27, 46, 62, 42, 180, 0, 25, 27, 42, 180, 0, 25, 28, 46, 79, 42, 180, 0, 25, 28]
abbrev dktX3_swaps_0 : List UInt8 := dkwX3_swaps_0 ++ dktX3_swaps_1
theorem dksX3_swaps_0 : cX3_swaps.data.toList.drop 0 = dktX3_swaps_0 := by decide +kernel
theorem dksX3_swaps_1 : cX3_swaps.data.toList.drop 24 = dktX3_swaps_1 := dk_seg dksX3_swaps_0 24 rfl rfl
theorem dX3_swaps_0 : decode cX3_swaps 0 = .ok (.aload_n 0, 1) := dk_42 (dk_at dksX3_swaps_0 0 rfl rfl)
theorem dX3_swaps_1 : decode cX3_swaps 1 = .ok (.getfield 25, 3) := dk_180 0 25 (dk_at dksX3_swaps_0 1 rfl rfl)
theorem dX3_swaps_4 : decode cX3_swaps 4 = .ok (.iload_n 1, 1) := dk_27 (dk_at dksX3_swaps_0 4 rfl rfl)
theorem dX3_swaps_5 : decode cX3_swaps 5 = .ok (.iaload, 1) := dk_46 (dk_at dksX3_swaps_0 5 rfl rfl)
theorem dX3_swaps_6 : decode cX3_swaps 6 = .ok (.istore_n 3, 1) := dk_62 (dk_at dksX3_swaps_0 6 rfl rfl)
theorem dX3_swaps_7 : decode cX3_swaps 7 = .ok (.aload_n 0, 1) := dk_42 (dk_at dksX3_swaps_0 7 rfl rfl)
theorem dX3_swaps_8 : decode cX3_swaps 8 = .ok (.getfield 25, 3) := dk_180 0 25 (dk_at dksX3_swaps_0 8 rfl rfl)
theorem dX3_swaps_11 : decode cX3_swaps 11 = .ok (.iload_n 1, 1) := dk_27 (dk_at dksX3_swaps_0 11 rfl rfl)
theorem dX3_swaps_12 : decode cX3_swaps 12 = .ok (.aload_n 0, 1) := dk_42 (dk_at dksX3_swaps_0 12 rfl rfl)
theorem dX3_swaps_13 : decode cX3_swaps 13 = .ok (.getfield 25, 3) := dk_180 0 25 (dk_at dksX3_swaps_0 13 rfl rfl)
theorem dX3_swaps_16 : decode cX3_swaps 16 = .ok (.iload_n 2, 1) := dk_28 (dk_at dksX3_swaps_0 16 rfl rfl)
theorem dX3_swaps_17 : decode cX3_swaps 17 = .ok (.iaload, 1) := dk_46 (dk_at dksX3_swaps_0 17 rfl rfl)
theorem dX3_swaps_18 : decode cX3_swaps 18 = .ok (.iastore, 1) := dk_79 (dk_at dksX3_swaps_0 18 rfl rfl)
theorem dX3_swaps_19 : decode cX3_swaps 19 = .ok (.aload_n 0, 1) := dk_42 (dk_at dksX3_swaps_0 19 rfl rfl)
theorem dX3_swaps_20 : decode cX3_swaps 20 = .ok (.getfield 25, 3) := dk_180 0 25 (dk_at dksX3_swaps_0 20 rfl rfl)
theorem dX3_swaps_23 : decode cX3_swaps 23 = .ok (.iload_n 2, 1) := dk_28 (dk_at dksX3_swaps_0 23 rfl rfl)
theorem dX3_swaps_24 : decode cX3_swaps 24 = .ok (.iload_n 3, 1) := dk_29 (dk_at dksX3_swaps_1 0 rfl rfl)
theorem dX3_swaps_25 : decode cX3_swaps 25 = .ok (.iastore, 1) := dk_79 (dk_at dksX3_swaps_1 1 rfl rfl)
theorem dX3_swaps_26 : decode cX3_swaps 26 = .ok (.return_, 1) := dk_177 (dk_at dksX3_swaps_1 2 rfl rfl)
abbrev cX3_undo : ByteArray := prog_8_method_46_code
def yX3_undo : MethodName := ⟨RX3, "undo", "()I"⟩
def dkwX3_undo_2 : List UInt8 := [17, 0, 142, 42, 180, 0, 46, 104, 27, 96, 46, 79, 132, 1, 1, 167, 255, 225, 42, 180, 0, 46, 172]
abbrev dktX3_undo_2 : List UInt8 := dkwX3_undo_2 ++ []
def dkwX3_undo_1 : List UInt8 := [100, 181, 0, 46, 3, 60, 27, 17, 0, 142, 162, 0, 30, 42, 180, 0, 7, 27, 42, 180, 0, 16]
abbrev dktX3_undo_1 : List UInt8 := dkwX3_undo_1 ++ dktX3_undo_2
def dkwX3_undo_0 : List UInt8 := [42, 3, 181, 0, 38, 42, 180, 0, 46, 154, 0, 9, 42, 4, 182, 0, 121, 172, 42, 89, 180, 0, 46, 4]
abbrev dktX3_undo_0 : List UInt8 := dkwX3_undo_0 ++ dktX3_undo_1
theorem dksX3_undo_0 : cX3_undo.data.toList.drop 0 = dktX3_undo_0 := by decide +kernel
theorem dksX3_undo_1 : cX3_undo.data.toList.drop 24 = dktX3_undo_1 := dk_seg dksX3_undo_0 24 rfl rfl
theorem dksX3_undo_2 : cX3_undo.data.toList.drop 46 = dktX3_undo_2 := dk_seg dksX3_undo_1 22 rfl rfl
theorem dX3_undo_0 : decode cX3_undo 0 = .ok (.aload_n 0, 1) := dk_42 (dk_at dksX3_undo_0 0 rfl rfl)
theorem dX3_undo_1 : decode cX3_undo 1 = .ok (.iconst 0, 1) := dk_3 (dk_at dksX3_undo_0 1 rfl rfl)
theorem dX3_undo_2 : decode cX3_undo 2 = .ok (.putfield 38, 3) := dk_181 0 38 (dk_at dksX3_undo_0 2 rfl rfl)
theorem dX3_undo_5 : decode cX3_undo 5 = .ok (.aload_n 0, 1) := dk_42 (dk_at dksX3_undo_0 5 rfl rfl)
theorem dX3_undo_6 : decode cX3_undo 6 = .ok (.getfield 46, 3) := dk_180 0 46 (dk_at dksX3_undo_0 6 rfl rfl)
theorem dX3_undo_9 : decode cX3_undo 9 = .ok (.ifCond .ne 9, 3) := dk_154 0 9 (dk_at dksX3_undo_0 9 rfl rfl)
theorem dX3_undo_12 : decode cX3_undo 12 = .ok (.aload_n 0, 1) := dk_42 (dk_at dksX3_undo_0 12 rfl rfl)
theorem dX3_undo_13 : decode cX3_undo 13 = .ok (.iconst 1, 1) := dk_4 (dk_at dksX3_undo_0 13 rfl rfl)
theorem dX3_undo_14 : decode cX3_undo 14 = .ok (.invokevirtual 121, 3) := dk_182 0 121 (dk_at dksX3_undo_0 14 rfl rfl)
theorem dX3_undo_17 : decode cX3_undo 17 = .ok (.ireturn, 1) := dk_172 (dk_at dksX3_undo_0 17 rfl rfl)
theorem dX3_undo_18 : decode cX3_undo 18 = .ok (.aload_n 0, 1) := dk_42 (dk_at dksX3_undo_0 18 rfl rfl)
theorem dX3_undo_19 : decode cX3_undo 19 = .ok (.dup, 1) := dk_89 (dk_at dksX3_undo_0 19 rfl rfl)
theorem dX3_undo_20 : decode cX3_undo 20 = .ok (.getfield 46, 3) := dk_180 0 46 (dk_at dksX3_undo_0 20 rfl rfl)
theorem dX3_undo_23 : decode cX3_undo 23 = .ok (.iconst 1, 1) := dk_4 (dk_at dksX3_undo_0 23 rfl rfl)
theorem dX3_undo_24 : decode cX3_undo 24 = .ok (.isub, 1) := dk_100 (dk_at dksX3_undo_1 0 rfl rfl)
theorem dX3_undo_25 : decode cX3_undo 25 = .ok (.putfield 46, 3) := dk_181 0 46 (dk_at dksX3_undo_1 1 rfl rfl)
theorem dX3_undo_28 : decode cX3_undo 28 = .ok (.iconst 0, 1) := dk_3 (dk_at dksX3_undo_1 4 rfl rfl)
theorem dX3_undo_29 : decode cX3_undo 29 = .ok (.istore_n 1, 1) := dk_60 (dk_at dksX3_undo_1 5 rfl rfl)
theorem dX3_undo_30 : decode cX3_undo 30 = .ok (.iload_n 1, 1) := dk_27 (dk_at dksX3_undo_1 6 rfl rfl)
theorem dX3_undo_31 : decode cX3_undo 31 = .ok (.sipush 142, 3) := dk_17 0 142 (dk_at dksX3_undo_1 7 rfl rfl)
theorem dX3_undo_34 : decode cX3_undo 34 = .ok (.if_icmp .ge 30, 3) := dk_162 0 30 (dk_at dksX3_undo_1 10 rfl rfl)
theorem dX3_undo_37 : decode cX3_undo 37 = .ok (.aload_n 0, 1) := dk_42 (dk_at dksX3_undo_1 13 rfl rfl)
theorem dX3_undo_38 : decode cX3_undo 38 = .ok (.getfield 7, 3) := dk_180 0 7 (dk_at dksX3_undo_1 14 rfl rfl)
theorem dX3_undo_41 : decode cX3_undo 41 = .ok (.iload_n 1, 1) := dk_27 (dk_at dksX3_undo_1 17 rfl rfl)
theorem dX3_undo_42 : decode cX3_undo 42 = .ok (.aload_n 0, 1) := dk_42 (dk_at dksX3_undo_1 18 rfl rfl)
theorem dX3_undo_43 : decode cX3_undo 43 = .ok (.getfield 16, 3) := dk_180 0 16 (dk_at dksX3_undo_1 19 rfl rfl)
theorem dX3_undo_46 : decode cX3_undo 46 = .ok (.sipush 142, 3) := dk_17 0 142 (dk_at dksX3_undo_2 0 rfl rfl)
theorem dX3_undo_49 : decode cX3_undo 49 = .ok (.aload_n 0, 1) := dk_42 (dk_at dksX3_undo_2 3 rfl rfl)
theorem dX3_undo_50 : decode cX3_undo 50 = .ok (.getfield 46, 3) := dk_180 0 46 (dk_at dksX3_undo_2 4 rfl rfl)
theorem dX3_undo_53 : decode cX3_undo 53 = .ok (.imul, 1) := dk_104 (dk_at dksX3_undo_2 7 rfl rfl)
theorem dX3_undo_54 : decode cX3_undo 54 = .ok (.iload_n 1, 1) := dk_27 (dk_at dksX3_undo_2 8 rfl rfl)
theorem dX3_undo_55 : decode cX3_undo 55 = .ok (.iadd, 1) := dk_96 (dk_at dksX3_undo_2 9 rfl rfl)
theorem dX3_undo_56 : decode cX3_undo 56 = .ok (.iaload, 1) := dk_46 (dk_at dksX3_undo_2 10 rfl rfl)
theorem dX3_undo_57 : decode cX3_undo 57 = .ok (.iastore, 1) := dk_79 (dk_at dksX3_undo_2 11 rfl rfl)
theorem dX3_undo_58 : decode cX3_undo 58 = .ok (.iinc 1 1, 3) := dk_132 1 1 (dk_at dksX3_undo_2 12 rfl rfl)
theorem dX3_undo_61 : decode cX3_undo 61 = .ok (.goto (-31), 3) := dk_167 255 225 (dk_at dksX3_undo_2 15 rfl rfl)
theorem dX3_undo_64 : decode cX3_undo 64 = .ok (.aload_n 0, 1) := dk_42 (dk_at dksX3_undo_2 18 rfl rfl)
theorem dX3_undo_65 : decode cX3_undo 65 = .ok (.getfield 46, 3) := dk_180 0 46 (dk_at dksX3_undo_2 19 rfl rfl)
theorem dX3_undo_68 : decode cX3_undo 68 = .ok (.ireturn, 1) := dk_172 (dk_at dksX3_undo_2 22 rfl rfl)
abbrev cX3_drawer : ByteArray := prog_8_method_48_code
def yX3_drawer : MethodName := ⟨RX3, "drawer", "(II)I"⟩
def dkwX3_drawer_1 : List UInt8 := [153, 0, 12, 42, 27, 28, 182, 0, 165, 167, 0, 8, 42, 5, 182, 0, 121, 172]
abbrev dktX3_drawer_1 : List UInt8 := dkwX3_drawer_1 ++ []
def dkwX3_drawer_0 : List UInt8 := [42, 3, 181, 0, 38, 27, 184, 0, 117, 154, 0, 9, 42, 4, 182, 0, 121, 172, 28, 3, 8, 184, 0, 42]
abbrev dktX3_drawer_0 : List UInt8 := dkwX3_drawer_0 ++ dktX3_drawer_1
theorem dksX3_drawer_0 : cX3_drawer.data.toList.drop 0 = dktX3_drawer_0 := by decide +kernel
theorem dksX3_drawer_1 : cX3_drawer.data.toList.drop 24 = dktX3_drawer_1 := dk_seg dksX3_drawer_0 24 rfl rfl
theorem dX3_drawer_0 : decode cX3_drawer 0 = .ok (.aload_n 0, 1) := dk_42 (dk_at dksX3_drawer_0 0 rfl rfl)
theorem dX3_drawer_1 : decode cX3_drawer 1 = .ok (.iconst 0, 1) := dk_3 (dk_at dksX3_drawer_0 1 rfl rfl)
theorem dX3_drawer_2 : decode cX3_drawer 2 = .ok (.putfield 38, 3) := dk_181 0 38 (dk_at dksX3_drawer_0 2 rfl rfl)
theorem dX3_drawer_5 : decode cX3_drawer 5 = .ok (.iload_n 1, 1) := dk_27 (dk_at dksX3_drawer_0 5 rfl rfl)
theorem dX3_drawer_6 : decode cX3_drawer 6 = .ok (.invokestatic 117, 3) := dk_184 0 117 (dk_at dksX3_drawer_0 6 rfl rfl)
theorem dX3_drawer_9 : decode cX3_drawer 9 = .ok (.ifCond .ne 9, 3) := dk_154 0 9 (dk_at dksX3_drawer_0 9 rfl rfl)
theorem dX3_drawer_12 : decode cX3_drawer 12 = .ok (.aload_n 0, 1) := dk_42 (dk_at dksX3_drawer_0 12 rfl rfl)
theorem dX3_drawer_13 : decode cX3_drawer 13 = .ok (.iconst 1, 1) := dk_4 (dk_at dksX3_drawer_0 13 rfl rfl)
theorem dX3_drawer_14 : decode cX3_drawer 14 = .ok (.invokevirtual 121, 3) := dk_182 0 121 (dk_at dksX3_drawer_0 14 rfl rfl)
theorem dX3_drawer_17 : decode cX3_drawer 17 = .ok (.ireturn, 1) := dk_172 (dk_at dksX3_drawer_0 17 rfl rfl)
theorem dX3_drawer_18 : decode cX3_drawer 18 = .ok (.iload_n 2, 1) := dk_28 (dk_at dksX3_drawer_0 18 rfl rfl)
theorem dX3_drawer_19 : decode cX3_drawer 19 = .ok (.iconst 0, 1) := dk_3 (dk_at dksX3_drawer_0 19 rfl rfl)
theorem dX3_drawer_20 : decode cX3_drawer 20 = .ok (.iconst 5, 1) := dk_8 (dk_at dksX3_drawer_0 20 rfl rfl)
theorem dX3_drawer_21 : decode cX3_drawer 21 = .ok (.invokestatic 42, 3) := dk_184 0 42 (dk_at dksX3_drawer_0 21 rfl rfl)
theorem dX3_drawer_24 : decode cX3_drawer 24 = .ok (.ifCond .eq 12, 3) := dk_153 0 12 (dk_at dksX3_drawer_1 0 rfl rfl)
theorem dX3_drawer_27 : decode cX3_drawer 27 = .ok (.aload_n 0, 1) := dk_42 (dk_at dksX3_drawer_1 3 rfl rfl)
theorem dX3_drawer_28 : decode cX3_drawer 28 = .ok (.iload_n 1, 1) := dk_27 (dk_at dksX3_drawer_1 4 rfl rfl)
theorem dX3_drawer_29 : decode cX3_drawer 29 = .ok (.iload_n 2, 1) := dk_28 (dk_at dksX3_drawer_1 5 rfl rfl)
theorem dX3_drawer_30 : decode cX3_drawer 30 = .ok (.invokevirtual 165, 3) := dk_182 0 165 (dk_at dksX3_drawer_1 6 rfl rfl)
theorem dX3_drawer_33 : decode cX3_drawer 33 = .ok (.goto 8, 3) := dk_167 0 8 (dk_at dksX3_drawer_1 9 rfl rfl)
theorem dX3_drawer_36 : decode cX3_drawer 36 = .ok (.aload_n 0, 1) := dk_42 (dk_at dksX3_drawer_1 12 rfl rfl)
theorem dX3_drawer_37 : decode cX3_drawer 37 = .ok (.iconst 2, 1) := dk_5 (dk_at dksX3_drawer_1 13 rfl rfl)
theorem dX3_drawer_38 : decode cX3_drawer 38 = .ok (.invokevirtual 121, 3) := dk_182 0 121 (dk_at dksX3_drawer_1 14 rfl rfl)
theorem dX3_drawer_41 : decode cX3_drawer 41 = .ok (.ireturn, 1) := dk_172 (dk_at dksX3_drawer_1 17 rfl rfl)
abbrev cX3_tellsDrawer : ByteArray := prog_8_method_47_code
def yX3_tellsDrawer : MethodName := ⟨RX3, "tellsDrawer", "(II)I"⟩
def dkwX3_tellsDrawer_4 : List UInt8 := [182, 0, 124, 100, 172]
abbrev dktX3_tellsDrawer_4 : List UInt8 := dkwX3_tellsDrawer_4 ++ []
def dkwX3_tellsDrawer_3 : List UInt8 := [180, 0, 7, 16, 10, 27, 96, 46, 172, 42, 27, 182, 0, 56, 172, 42, 180, 0, 7, 4, 46, 42, 27]
abbrev dktX3_tellsDrawer_3 : List UInt8 := dkwX3_tellsDrawer_3 ++ dktX3_tellsDrawer_4
def dkwX3_tellsDrawer_2 : List UInt8 := [42, 27, 182, 0, 124, 172, 42, 27, 182, 0, 162, 172, 27, 42, 180, 0, 7, 6, 46, 184, 0, 53, 172, 42]
abbrev dktX3_tellsDrawer_2 : List UInt8 := dkwX3_tellsDrawer_2 ++ dktX3_tellsDrawer_3
def dkwX3_tellsDrawer_1 : List UInt8 := [170, 0, 0, 0, 0, 0, 74, 0, 0, 0, 0, 0, 0, 0, 4, 0, 0, 0, 35, 0, 0, 0, 41, 0, 0, 0, 47, 0, 0, 0, 58, 0, 0, 0, 68]
abbrev dktX3_tellsDrawer_1 : List UInt8 := dkwX3_tellsDrawer_1 ++ dktX3_tellsDrawer_2
def dkwX3_tellsDrawer_0 : List UInt8 := [28]
abbrev dktX3_tellsDrawer_0 : List UInt8 := dkwX3_tellsDrawer_0 ++ dktX3_tellsDrawer_1
theorem dksX3_tellsDrawer_0 : cX3_tellsDrawer.data.toList.drop 0 = dktX3_tellsDrawer_0 := by decide +kernel
theorem dksX3_tellsDrawer_1 : cX3_tellsDrawer.data.toList.drop 1 = dktX3_tellsDrawer_1 := dk_seg dksX3_tellsDrawer_0 1 rfl rfl
theorem dksX3_tellsDrawer_2 : cX3_tellsDrawer.data.toList.drop 36 = dktX3_tellsDrawer_2 := dk_seg dksX3_tellsDrawer_1 35 rfl rfl
theorem dksX3_tellsDrawer_3 : cX3_tellsDrawer.data.toList.drop 60 = dktX3_tellsDrawer_3 := dk_seg dksX3_tellsDrawer_2 24 rfl rfl
theorem dksX3_tellsDrawer_4 : cX3_tellsDrawer.data.toList.drop 83 = dktX3_tellsDrawer_4 := dk_seg dksX3_tellsDrawer_3 23 rfl rfl
theorem dX3_tellsDrawer_0 : decode cX3_tellsDrawer 0 = .ok (.iload_n 2, 1) := dk_28 (dk_at dksX3_tellsDrawer_0 0 rfl rfl)
theorem dX3_tellsDrawer_1 : decode cX3_tellsDrawer 1 = .ok (.tableswitch 74 0 4 #[35, 41, 47, 58, 68], 35) := by decide +kernel
theorem dX3_tellsDrawer_36 : decode cX3_tellsDrawer 36 = .ok (.aload_n 0, 1) := dk_42 (dk_at dksX3_tellsDrawer_2 0 rfl rfl)
theorem dX3_tellsDrawer_37 : decode cX3_tellsDrawer 37 = .ok (.iload_n 1, 1) := dk_27 (dk_at dksX3_tellsDrawer_2 1 rfl rfl)
theorem dX3_tellsDrawer_38 : decode cX3_tellsDrawer 38 = .ok (.invokevirtual 124, 3) := dk_182 0 124 (dk_at dksX3_tellsDrawer_2 2 rfl rfl)
theorem dX3_tellsDrawer_41 : decode cX3_tellsDrawer 41 = .ok (.ireturn, 1) := dk_172 (dk_at dksX3_tellsDrawer_2 5 rfl rfl)
theorem dX3_tellsDrawer_42 : decode cX3_tellsDrawer 42 = .ok (.aload_n 0, 1) := dk_42 (dk_at dksX3_tellsDrawer_2 6 rfl rfl)
theorem dX3_tellsDrawer_43 : decode cX3_tellsDrawer 43 = .ok (.iload_n 1, 1) := dk_27 (dk_at dksX3_tellsDrawer_2 7 rfl rfl)
theorem dX3_tellsDrawer_44 : decode cX3_tellsDrawer 44 = .ok (.invokevirtual 162, 3) := dk_182 0 162 (dk_at dksX3_tellsDrawer_2 8 rfl rfl)
theorem dX3_tellsDrawer_47 : decode cX3_tellsDrawer 47 = .ok (.ireturn, 1) := dk_172 (dk_at dksX3_tellsDrawer_2 11 rfl rfl)
theorem dX3_tellsDrawer_48 : decode cX3_tellsDrawer 48 = .ok (.iload_n 1, 1) := dk_27 (dk_at dksX3_tellsDrawer_2 12 rfl rfl)
theorem dX3_tellsDrawer_49 : decode cX3_tellsDrawer 49 = .ok (.aload_n 0, 1) := dk_42 (dk_at dksX3_tellsDrawer_2 13 rfl rfl)
theorem dX3_tellsDrawer_50 : decode cX3_tellsDrawer 50 = .ok (.getfield 7, 3) := dk_180 0 7 (dk_at dksX3_tellsDrawer_2 14 rfl rfl)
theorem dX3_tellsDrawer_53 : decode cX3_tellsDrawer 53 = .ok (.iconst 3, 1) := dk_6 (dk_at dksX3_tellsDrawer_2 17 rfl rfl)
theorem dX3_tellsDrawer_54 : decode cX3_tellsDrawer 54 = .ok (.iaload, 1) := dk_46 (dk_at dksX3_tellsDrawer_2 18 rfl rfl)
theorem dX3_tellsDrawer_55 : decode cX3_tellsDrawer 55 = .ok (.invokestatic 53, 3) := dk_184 0 53 (dk_at dksX3_tellsDrawer_2 19 rfl rfl)
theorem dX3_tellsDrawer_58 : decode cX3_tellsDrawer 58 = .ok (.ireturn, 1) := dk_172 (dk_at dksX3_tellsDrawer_2 22 rfl rfl)
theorem dX3_tellsDrawer_59 : decode cX3_tellsDrawer 59 = .ok (.aload_n 0, 1) := dk_42 (dk_at dksX3_tellsDrawer_2 23 rfl rfl)
theorem dX3_tellsDrawer_60 : decode cX3_tellsDrawer 60 = .ok (.getfield 7, 3) := dk_180 0 7 (dk_at dksX3_tellsDrawer_3 0 rfl rfl)
theorem dX3_tellsDrawer_63 : decode cX3_tellsDrawer 63 = .ok (.bipush 10, 2) := dk_16 10 (dk_at dksX3_tellsDrawer_3 3 rfl rfl)
theorem dX3_tellsDrawer_65 : decode cX3_tellsDrawer 65 = .ok (.iload_n 1, 1) := dk_27 (dk_at dksX3_tellsDrawer_3 5 rfl rfl)
theorem dX3_tellsDrawer_66 : decode cX3_tellsDrawer 66 = .ok (.iadd, 1) := dk_96 (dk_at dksX3_tellsDrawer_3 6 rfl rfl)
theorem dX3_tellsDrawer_67 : decode cX3_tellsDrawer 67 = .ok (.iaload, 1) := dk_46 (dk_at dksX3_tellsDrawer_3 7 rfl rfl)
theorem dX3_tellsDrawer_68 : decode cX3_tellsDrawer 68 = .ok (.ireturn, 1) := dk_172 (dk_at dksX3_tellsDrawer_3 8 rfl rfl)
theorem dX3_tellsDrawer_69 : decode cX3_tellsDrawer 69 = .ok (.aload_n 0, 1) := dk_42 (dk_at dksX3_tellsDrawer_3 9 rfl rfl)
theorem dX3_tellsDrawer_70 : decode cX3_tellsDrawer 70 = .ok (.iload_n 1, 1) := dk_27 (dk_at dksX3_tellsDrawer_3 10 rfl rfl)
theorem dX3_tellsDrawer_71 : decode cX3_tellsDrawer 71 = .ok (.invokevirtual 56, 3) := dk_182 0 56 (dk_at dksX3_tellsDrawer_3 11 rfl rfl)
theorem dX3_tellsDrawer_74 : decode cX3_tellsDrawer 74 = .ok (.ireturn, 1) := dk_172 (dk_at dksX3_tellsDrawer_3 14 rfl rfl)
theorem dX3_tellsDrawer_75 : decode cX3_tellsDrawer 75 = .ok (.aload_n 0, 1) := dk_42 (dk_at dksX3_tellsDrawer_3 15 rfl rfl)
theorem dX3_tellsDrawer_76 : decode cX3_tellsDrawer 76 = .ok (.getfield 7, 3) := dk_180 0 7 (dk_at dksX3_tellsDrawer_3 16 rfl rfl)
theorem dX3_tellsDrawer_79 : decode cX3_tellsDrawer 79 = .ok (.iconst 1, 1) := dk_4 (dk_at dksX3_tellsDrawer_3 19 rfl rfl)
theorem dX3_tellsDrawer_80 : decode cX3_tellsDrawer 80 = .ok (.iaload, 1) := dk_46 (dk_at dksX3_tellsDrawer_3 20 rfl rfl)
theorem dX3_tellsDrawer_81 : decode cX3_tellsDrawer 81 = .ok (.aload_n 0, 1) := dk_42 (dk_at dksX3_tellsDrawer_3 21 rfl rfl)
theorem dX3_tellsDrawer_82 : decode cX3_tellsDrawer 82 = .ok (.iload_n 1, 1) := dk_27 (dk_at dksX3_tellsDrawer_3 22 rfl rfl)
theorem dX3_tellsDrawer_83 : decode cX3_tellsDrawer 83 = .ok (.invokevirtual 124, 3) := dk_182 0 124 (dk_at dksX3_tellsDrawer_4 0 rfl rfl)
theorem dX3_tellsDrawer_86 : decode cX3_tellsDrawer 86 = .ok (.isub, 1) := dk_100 (dk_at dksX3_tellsDrawer_4 3 rfl rfl)
theorem dX3_tellsDrawer_87 : decode cX3_tellsDrawer 87 = .ok (.ireturn, 1) := dk_172 (dk_at dksX3_tellsDrawer_4 4 rfl rfl)
abbrev cX3_itemsOf : ByteArray := prog_8_method_9_code
def yX3_itemsOf : MethodName := ⟨RX3, "itemsOf", "(I)I"⟩
def dkwX3_itemsOf_1 : List UInt8 := [160, 0, 7, 4, 167, 0, 4, 3, 96, 61, 132, 3, 1, 167, 255, 224, 28, 172]
abbrev dktX3_itemsOf_1 : List UInt8 := dkwX3_itemsOf_1 ++ []
def dkwX3_itemsOf_0 : List UInt8 := [3, 61, 3, 62, 29, 42, 180, 0, 7, 16, 9, 46, 162, 0, 27, 28, 42, 29, 5, 182, 0, 49, 27]
abbrev dktX3_itemsOf_0 : List UInt8 := dkwX3_itemsOf_0 ++ dktX3_itemsOf_1
theorem dksX3_itemsOf_0 : cX3_itemsOf.data.toList.drop 0 = dktX3_itemsOf_0 := by decide +kernel
theorem dksX3_itemsOf_1 : cX3_itemsOf.data.toList.drop 23 = dktX3_itemsOf_1 := dk_seg dksX3_itemsOf_0 23 rfl rfl
theorem dX3_itemsOf_0 : decode cX3_itemsOf 0 = .ok (.iconst 0, 1) := dk_3 (dk_at dksX3_itemsOf_0 0 rfl rfl)
theorem dX3_itemsOf_1 : decode cX3_itemsOf 1 = .ok (.istore_n 2, 1) := dk_61 (dk_at dksX3_itemsOf_0 1 rfl rfl)
theorem dX3_itemsOf_2 : decode cX3_itemsOf 2 = .ok (.iconst 0, 1) := dk_3 (dk_at dksX3_itemsOf_0 2 rfl rfl)
theorem dX3_itemsOf_3 : decode cX3_itemsOf 3 = .ok (.istore_n 3, 1) := dk_62 (dk_at dksX3_itemsOf_0 3 rfl rfl)
theorem dX3_itemsOf_4 : decode cX3_itemsOf 4 = .ok (.iload_n 3, 1) := dk_29 (dk_at dksX3_itemsOf_0 4 rfl rfl)
theorem dX3_itemsOf_5 : decode cX3_itemsOf 5 = .ok (.aload_n 0, 1) := dk_42 (dk_at dksX3_itemsOf_0 5 rfl rfl)
theorem dX3_itemsOf_6 : decode cX3_itemsOf 6 = .ok (.getfield 7, 3) := dk_180 0 7 (dk_at dksX3_itemsOf_0 6 rfl rfl)
theorem dX3_itemsOf_9 : decode cX3_itemsOf 9 = .ok (.bipush 9, 2) := dk_16 9 (dk_at dksX3_itemsOf_0 9 rfl rfl)
theorem dX3_itemsOf_11 : decode cX3_itemsOf 11 = .ok (.iaload, 1) := dk_46 (dk_at dksX3_itemsOf_0 11 rfl rfl)
theorem dX3_itemsOf_12 : decode cX3_itemsOf 12 = .ok (.if_icmp .ge 27, 3) := dk_162 0 27 (dk_at dksX3_itemsOf_0 12 rfl rfl)
theorem dX3_itemsOf_15 : decode cX3_itemsOf 15 = .ok (.iload_n 2, 1) := dk_28 (dk_at dksX3_itemsOf_0 15 rfl rfl)
theorem dX3_itemsOf_16 : decode cX3_itemsOf 16 = .ok (.aload_n 0, 1) := dk_42 (dk_at dksX3_itemsOf_0 16 rfl rfl)
theorem dX3_itemsOf_17 : decode cX3_itemsOf 17 = .ok (.iload_n 3, 1) := dk_29 (dk_at dksX3_itemsOf_0 17 rfl rfl)
theorem dX3_itemsOf_18 : decode cX3_itemsOf 18 = .ok (.iconst 2, 1) := dk_5 (dk_at dksX3_itemsOf_0 18 rfl rfl)
theorem dX3_itemsOf_19 : decode cX3_itemsOf 19 = .ok (.invokevirtual 49, 3) := dk_182 0 49 (dk_at dksX3_itemsOf_0 19 rfl rfl)
theorem dX3_itemsOf_22 : decode cX3_itemsOf 22 = .ok (.iload_n 1, 1) := dk_27 (dk_at dksX3_itemsOf_0 22 rfl rfl)
theorem dX3_itemsOf_23 : decode cX3_itemsOf 23 = .ok (.if_icmp .ne 7, 3) := dk_160 0 7 (dk_at dksX3_itemsOf_1 0 rfl rfl)
theorem dX3_itemsOf_26 : decode cX3_itemsOf 26 = .ok (.iconst 1, 1) := dk_4 (dk_at dksX3_itemsOf_1 3 rfl rfl)
theorem dX3_itemsOf_27 : decode cX3_itemsOf 27 = .ok (.goto 4, 3) := dk_167 0 4 (dk_at dksX3_itemsOf_1 4 rfl rfl)
theorem dX3_itemsOf_30 : decode cX3_itemsOf 30 = .ok (.iconst 0, 1) := dk_3 (dk_at dksX3_itemsOf_1 7 rfl rfl)
theorem dX3_itemsOf_31 : decode cX3_itemsOf 31 = .ok (.iadd, 1) := dk_96 (dk_at dksX3_itemsOf_1 8 rfl rfl)
theorem dX3_itemsOf_32 : decode cX3_itemsOf 32 = .ok (.istore_n 2, 1) := dk_61 (dk_at dksX3_itemsOf_1 9 rfl rfl)
theorem dX3_itemsOf_33 : decode cX3_itemsOf 33 = .ok (.iinc 3 1, 3) := dk_132 3 1 (dk_at dksX3_itemsOf_1 10 rfl rfl)
theorem dX3_itemsOf_36 : decode cX3_itemsOf 36 = .ok (.goto (-32), 3) := dk_167 255 224 (dk_at dksX3_itemsOf_1 13 rfl rfl)
theorem dX3_itemsOf_39 : decode cX3_itemsOf 39 = .ok (.iload_n 2, 1) := dk_28 (dk_at dksX3_itemsOf_1 16 rfl rfl)
theorem dX3_itemsOf_40 : decode cX3_itemsOf 40 = .ok (.ireturn, 1) := dk_172 (dk_at dksX3_itemsOf_1 17 rfl rfl)
abbrev cX3_item : ByteArray := prog_8_method_49_code
def yX3_item : MethodName := ⟨RX3, "item", "(II)I"⟩
def dkwX3_item_2 : List UInt8 := [62, 29, 2, 160, 0, 7, 2, 167, 0, 11, 42, 29, 4, 28, 96, 182, 0, 49, 172]
abbrev dktX3_item_2 : List UInt8 := dkwX3_item_2 ++ []
def dkwX3_item_1 : List UInt8 := [182, 0, 121, 172, 28, 3, 4, 184, 0, 42, 154, 0, 9, 42, 5, 182, 0, 121, 172, 42, 27, 182, 0, 70]
abbrev dktX3_item_1 : List UInt8 := dkwX3_item_1 ++ dktX3_item_2
def dkwX3_item_0 : List UInt8 := [42, 3, 181, 0, 38, 27, 3, 42, 180, 0, 7, 16, 8, 46, 4, 100, 184, 0, 42, 154, 0, 9, 42, 4]
abbrev dktX3_item_0 : List UInt8 := dkwX3_item_0 ++ dktX3_item_1
theorem dksX3_item_0 : cX3_item.data.toList.drop 0 = dktX3_item_0 := by decide +kernel
theorem dksX3_item_1 : cX3_item.data.toList.drop 24 = dktX3_item_1 := dk_seg dksX3_item_0 24 rfl rfl
theorem dksX3_item_2 : cX3_item.data.toList.drop 48 = dktX3_item_2 := dk_seg dksX3_item_1 24 rfl rfl
theorem dX3_item_0 : decode cX3_item 0 = .ok (.aload_n 0, 1) := dk_42 (dk_at dksX3_item_0 0 rfl rfl)
theorem dX3_item_1 : decode cX3_item 1 = .ok (.iconst 0, 1) := dk_3 (dk_at dksX3_item_0 1 rfl rfl)
theorem dX3_item_2 : decode cX3_item 2 = .ok (.putfield 38, 3) := dk_181 0 38 (dk_at dksX3_item_0 2 rfl rfl)
theorem dX3_item_5 : decode cX3_item 5 = .ok (.iload_n 1, 1) := dk_27 (dk_at dksX3_item_0 5 rfl rfl)
theorem dX3_item_6 : decode cX3_item 6 = .ok (.iconst 0, 1) := dk_3 (dk_at dksX3_item_0 6 rfl rfl)
theorem dX3_item_7 : decode cX3_item 7 = .ok (.aload_n 0, 1) := dk_42 (dk_at dksX3_item_0 7 rfl rfl)
theorem dX3_item_8 : decode cX3_item 8 = .ok (.getfield 7, 3) := dk_180 0 7 (dk_at dksX3_item_0 8 rfl rfl)
theorem dX3_item_11 : decode cX3_item 11 = .ok (.bipush 8, 2) := dk_16 8 (dk_at dksX3_item_0 11 rfl rfl)
theorem dX3_item_13 : decode cX3_item 13 = .ok (.iaload, 1) := dk_46 (dk_at dksX3_item_0 13 rfl rfl)
theorem dX3_item_14 : decode cX3_item 14 = .ok (.iconst 1, 1) := dk_4 (dk_at dksX3_item_0 14 rfl rfl)
theorem dX3_item_15 : decode cX3_item 15 = .ok (.isub, 1) := dk_100 (dk_at dksX3_item_0 15 rfl rfl)
theorem dX3_item_16 : decode cX3_item 16 = .ok (.invokestatic 42, 3) := dk_184 0 42 (dk_at dksX3_item_0 16 rfl rfl)
theorem dX3_item_19 : decode cX3_item 19 = .ok (.ifCond .ne 9, 3) := dk_154 0 9 (dk_at dksX3_item_0 19 rfl rfl)
theorem dX3_item_22 : decode cX3_item 22 = .ok (.aload_n 0, 1) := dk_42 (dk_at dksX3_item_0 22 rfl rfl)
theorem dX3_item_23 : decode cX3_item 23 = .ok (.iconst 1, 1) := dk_4 (dk_at dksX3_item_0 23 rfl rfl)
theorem dX3_item_24 : decode cX3_item 24 = .ok (.invokevirtual 121, 3) := dk_182 0 121 (dk_at dksX3_item_1 0 rfl rfl)
theorem dX3_item_27 : decode cX3_item 27 = .ok (.ireturn, 1) := dk_172 (dk_at dksX3_item_1 3 rfl rfl)
theorem dX3_item_28 : decode cX3_item 28 = .ok (.iload_n 2, 1) := dk_28 (dk_at dksX3_item_1 4 rfl rfl)
theorem dX3_item_29 : decode cX3_item 29 = .ok (.iconst 0, 1) := dk_3 (dk_at dksX3_item_1 5 rfl rfl)
theorem dX3_item_30 : decode cX3_item 30 = .ok (.iconst 1, 1) := dk_4 (dk_at dksX3_item_1 6 rfl rfl)
theorem dX3_item_31 : decode cX3_item 31 = .ok (.invokestatic 42, 3) := dk_184 0 42 (dk_at dksX3_item_1 7 rfl rfl)
theorem dX3_item_34 : decode cX3_item 34 = .ok (.ifCond .ne 9, 3) := dk_154 0 9 (dk_at dksX3_item_1 10 rfl rfl)
theorem dX3_item_37 : decode cX3_item 37 = .ok (.aload_n 0, 1) := dk_42 (dk_at dksX3_item_1 13 rfl rfl)
theorem dX3_item_38 : decode cX3_item 38 = .ok (.iconst 2, 1) := dk_5 (dk_at dksX3_item_1 14 rfl rfl)
theorem dX3_item_39 : decode cX3_item 39 = .ok (.invokevirtual 121, 3) := dk_182 0 121 (dk_at dksX3_item_1 15 rfl rfl)
theorem dX3_item_42 : decode cX3_item 42 = .ok (.ireturn, 1) := dk_172 (dk_at dksX3_item_1 18 rfl rfl)
theorem dX3_item_43 : decode cX3_item 43 = .ok (.aload_n 0, 1) := dk_42 (dk_at dksX3_item_1 19 rfl rfl)
theorem dX3_item_44 : decode cX3_item 44 = .ok (.iload_n 1, 1) := dk_27 (dk_at dksX3_item_1 20 rfl rfl)
theorem dX3_item_45 : decode cX3_item 45 = .ok (.invokevirtual 70, 3) := dk_182 0 70 (dk_at dksX3_item_1 21 rfl rfl)
theorem dX3_item_48 : decode cX3_item 48 = .ok (.istore_n 3, 1) := dk_62 (dk_at dksX3_item_2 0 rfl rfl)
theorem dX3_item_49 : decode cX3_item 49 = .ok (.iload_n 3, 1) := dk_29 (dk_at dksX3_item_2 1 rfl rfl)
theorem dX3_item_50 : decode cX3_item 50 = .ok (.iconst (-1), 1) := dk_2 (dk_at dksX3_item_2 2 rfl rfl)
theorem dX3_item_51 : decode cX3_item 51 = .ok (.if_icmp .ne 7, 3) := dk_160 0 7 (dk_at dksX3_item_2 3 rfl rfl)
theorem dX3_item_54 : decode cX3_item 54 = .ok (.iconst (-1), 1) := dk_2 (dk_at dksX3_item_2 6 rfl rfl)
theorem dX3_item_55 : decode cX3_item 55 = .ok (.goto 11, 3) := dk_167 0 11 (dk_at dksX3_item_2 7 rfl rfl)
theorem dX3_item_58 : decode cX3_item 58 = .ok (.aload_n 0, 1) := dk_42 (dk_at dksX3_item_2 10 rfl rfl)
theorem dX3_item_59 : decode cX3_item 59 = .ok (.iload_n 3, 1) := dk_29 (dk_at dksX3_item_2 11 rfl rfl)
theorem dX3_item_60 : decode cX3_item 60 = .ok (.iconst 1, 1) := dk_4 (dk_at dksX3_item_2 12 rfl rfl)
theorem dX3_item_61 : decode cX3_item 61 = .ok (.iload_n 2, 1) := dk_28 (dk_at dksX3_item_2 13 rfl rfl)
theorem dX3_item_62 : decode cX3_item 62 = .ok (.iadd, 1) := dk_96 (dk_at dksX3_item_2 14 rfl rfl)
theorem dX3_item_63 : decode cX3_item 63 = .ok (.invokevirtual 49, 3) := dk_182 0 49 (dk_at dksX3_item_2 15 rfl rfl)
theorem dX3_item_66 : decode cX3_item 66 = .ok (.ireturn, 1) := dk_172 (dk_at dksX3_item_2 18 rfl rfl)
abbrev cX3_count : ByteArray := prog_8_method_53_code
def yX3_count : MethodName := ⟨RX3, "count", "(I)I"⟩
def dkwX3_count_1 : List UInt8 := [4, 182, 0, 121, 172]
abbrev dktX3_count_1 : List UInt8 := dkwX3_count_1 ++ []
def dkwX3_count_0 : List UInt8 := [42, 3, 181, 0, 38, 27, 3, 16, 10, 184, 0, 42, 153, 0, 11, 42, 27, 182, 0, 177, 167, 0, 8, 42]
abbrev dktX3_count_0 : List UInt8 := dkwX3_count_0 ++ dktX3_count_1
theorem dksX3_count_0 : cX3_count.data.toList.drop 0 = dktX3_count_0 := by decide +kernel
theorem dksX3_count_1 : cX3_count.data.toList.drop 24 = dktX3_count_1 := dk_seg dksX3_count_0 24 rfl rfl
theorem dX3_count_0 : decode cX3_count 0 = .ok (.aload_n 0, 1) := dk_42 (dk_at dksX3_count_0 0 rfl rfl)
theorem dX3_count_1 : decode cX3_count 1 = .ok (.iconst 0, 1) := dk_3 (dk_at dksX3_count_0 1 rfl rfl)
theorem dX3_count_2 : decode cX3_count 2 = .ok (.putfield 38, 3) := dk_181 0 38 (dk_at dksX3_count_0 2 rfl rfl)
theorem dX3_count_5 : decode cX3_count 5 = .ok (.iload_n 1, 1) := dk_27 (dk_at dksX3_count_0 5 rfl rfl)
theorem dX3_count_6 : decode cX3_count 6 = .ok (.iconst 0, 1) := dk_3 (dk_at dksX3_count_0 6 rfl rfl)
theorem dX3_count_7 : decode cX3_count 7 = .ok (.bipush 10, 2) := dk_16 10 (dk_at dksX3_count_0 7 rfl rfl)
theorem dX3_count_9 : decode cX3_count 9 = .ok (.invokestatic 42, 3) := dk_184 0 42 (dk_at dksX3_count_0 9 rfl rfl)
theorem dX3_count_12 : decode cX3_count 12 = .ok (.ifCond .eq 11, 3) := dk_153 0 11 (dk_at dksX3_count_0 12 rfl rfl)
theorem dX3_count_15 : decode cX3_count 15 = .ok (.aload_n 0, 1) := dk_42 (dk_at dksX3_count_0 15 rfl rfl)
theorem dX3_count_16 : decode cX3_count 16 = .ok (.iload_n 1, 1) := dk_27 (dk_at dksX3_count_0 16 rfl rfl)
theorem dX3_count_17 : decode cX3_count 17 = .ok (.invokevirtual 177, 3) := dk_182 0 177 (dk_at dksX3_count_0 17 rfl rfl)
theorem dX3_count_20 : decode cX3_count 20 = .ok (.goto 8, 3) := dk_167 0 8 (dk_at dksX3_count_0 20 rfl rfl)
theorem dX3_count_23 : decode cX3_count 23 = .ok (.aload_n 0, 1) := dk_42 (dk_at dksX3_count_0 23 rfl rfl)
theorem dX3_count_24 : decode cX3_count 24 = .ok (.iconst 1, 1) := dk_4 (dk_at dksX3_count_1 0 rfl rfl)
theorem dX3_count_25 : decode cX3_count 25 = .ok (.invokevirtual 121, 3) := dk_182 0 121 (dk_at dksX3_count_1 1 rfl rfl)
theorem dX3_count_28 : decode cX3_count 28 = .ok (.ireturn, 1) := dk_172 (dk_at dksX3_count_1 4 rfl rfl)
abbrev cX3_counts : ByteArray := prog_8_method_52_code
def yX3_counts : MethodName := ⟨RX3, "counts", "(I)I"⟩
def dkwX3_counts_4 : List UInt8 := [42, 180, 0, 7, 7, 27, 96, 8, 100, 46, 172]
abbrev dktX3_counts_4 : List UInt8 := dkwX3_counts_4 ++ []
def dkwX3_counts_3 : List UInt8 := [180, 0, 7, 6, 46, 182, 0, 56, 172, 42, 182, 0, 171, 172, 42, 182, 0, 174, 172, 42, 180, 0, 46, 172]
abbrev dktX3_counts_3 : List UInt8 := dkwX3_counts_3 ++ dktX3_counts_4
def dkwX3_counts_2 : List UInt8 := [42, 180, 0, 7, 6, 46, 172, 42, 180, 0, 7, 16, 9, 46, 172, 42, 182, 0, 168, 172, 42, 42]
abbrev dktX3_counts_2 : List UInt8 := dkwX3_counts_2 ++ dktX3_counts_3
def dkwX3_counts_1 : List UInt8 := [170, 0, 0, 0, 0, 0, 105, 0, 0, 0, 0, 0, 0, 0, 10, 0, 0, 0, 59, 0, 0, 0, 66, 0, 0, 0, 74, 0, 0, 0, 79, 0, 0, 0, 90, 0, 0, 0, 105, 0, 0, 0, 105, 0, 0, 0, 105, 0, 0, 0, 105, 0, 0, 0, 95, 0, 0, 0, 100]
abbrev dktX3_counts_1 : List UInt8 := dkwX3_counts_1 ++ dktX3_counts_2
def dkwX3_counts_0 : List UInt8 := [27]
abbrev dktX3_counts_0 : List UInt8 := dkwX3_counts_0 ++ dktX3_counts_1
theorem dksX3_counts_0 : cX3_counts.data.toList.drop 0 = dktX3_counts_0 := by decide +kernel
theorem dksX3_counts_1 : cX3_counts.data.toList.drop 1 = dktX3_counts_1 := dk_seg dksX3_counts_0 1 rfl rfl
theorem dksX3_counts_2 : cX3_counts.data.toList.drop 60 = dktX3_counts_2 := dk_seg dksX3_counts_1 59 rfl rfl
theorem dksX3_counts_3 : cX3_counts.data.toList.drop 82 = dktX3_counts_3 := dk_seg dksX3_counts_2 22 rfl rfl
theorem dksX3_counts_4 : cX3_counts.data.toList.drop 106 = dktX3_counts_4 := dk_seg dksX3_counts_3 24 rfl rfl
theorem dX3_counts_0 : decode cX3_counts 0 = .ok (.iload_n 1, 1) := dk_27 (dk_at dksX3_counts_0 0 rfl rfl)
theorem dX3_counts_1 : decode cX3_counts 1 = .ok (.tableswitch 105 0 10 #[59, 66, 74, 79, 90, 105, 105, 105, 105, 95, 100], 59) := by decide +kernel
theorem dX3_counts_60 : decode cX3_counts 60 = .ok (.aload_n 0, 1) := dk_42 (dk_at dksX3_counts_2 0 rfl rfl)
theorem dX3_counts_61 : decode cX3_counts 61 = .ok (.getfield 7, 3) := dk_180 0 7 (dk_at dksX3_counts_2 1 rfl rfl)
theorem dX3_counts_64 : decode cX3_counts 64 = .ok (.iconst 3, 1) := dk_6 (dk_at dksX3_counts_2 4 rfl rfl)
theorem dX3_counts_65 : decode cX3_counts 65 = .ok (.iaload, 1) := dk_46 (dk_at dksX3_counts_2 5 rfl rfl)
theorem dX3_counts_66 : decode cX3_counts 66 = .ok (.ireturn, 1) := dk_172 (dk_at dksX3_counts_2 6 rfl rfl)
theorem dX3_counts_67 : decode cX3_counts 67 = .ok (.aload_n 0, 1) := dk_42 (dk_at dksX3_counts_2 7 rfl rfl)
theorem dX3_counts_68 : decode cX3_counts 68 = .ok (.getfield 7, 3) := dk_180 0 7 (dk_at dksX3_counts_2 8 rfl rfl)
theorem dX3_counts_71 : decode cX3_counts 71 = .ok (.bipush 9, 2) := dk_16 9 (dk_at dksX3_counts_2 11 rfl rfl)
theorem dX3_counts_73 : decode cX3_counts 73 = .ok (.iaload, 1) := dk_46 (dk_at dksX3_counts_2 13 rfl rfl)
theorem dX3_counts_74 : decode cX3_counts 74 = .ok (.ireturn, 1) := dk_172 (dk_at dksX3_counts_2 14 rfl rfl)
theorem dX3_counts_75 : decode cX3_counts 75 = .ok (.aload_n 0, 1) := dk_42 (dk_at dksX3_counts_2 15 rfl rfl)
theorem dX3_counts_76 : decode cX3_counts 76 = .ok (.invokevirtual 168, 3) := dk_182 0 168 (dk_at dksX3_counts_2 16 rfl rfl)
theorem dX3_counts_79 : decode cX3_counts 79 = .ok (.ireturn, 1) := dk_172 (dk_at dksX3_counts_2 19 rfl rfl)
theorem dX3_counts_80 : decode cX3_counts 80 = .ok (.aload_n 0, 1) := dk_42 (dk_at dksX3_counts_2 20 rfl rfl)
theorem dX3_counts_81 : decode cX3_counts 81 = .ok (.aload_n 0, 1) := dk_42 (dk_at dksX3_counts_2 21 rfl rfl)
theorem dX3_counts_82 : decode cX3_counts 82 = .ok (.getfield 7, 3) := dk_180 0 7 (dk_at dksX3_counts_3 0 rfl rfl)
theorem dX3_counts_85 : decode cX3_counts 85 = .ok (.iconst 3, 1) := dk_6 (dk_at dksX3_counts_3 3 rfl rfl)
theorem dX3_counts_86 : decode cX3_counts 86 = .ok (.iaload, 1) := dk_46 (dk_at dksX3_counts_3 4 rfl rfl)
theorem dX3_counts_87 : decode cX3_counts 87 = .ok (.invokevirtual 56, 3) := dk_182 0 56 (dk_at dksX3_counts_3 5 rfl rfl)
theorem dX3_counts_90 : decode cX3_counts 90 = .ok (.ireturn, 1) := dk_172 (dk_at dksX3_counts_3 8 rfl rfl)
theorem dX3_counts_91 : decode cX3_counts 91 = .ok (.aload_n 0, 1) := dk_42 (dk_at dksX3_counts_3 9 rfl rfl)
theorem dX3_counts_92 : decode cX3_counts 92 = .ok (.invokevirtual 171, 3) := dk_182 0 171 (dk_at dksX3_counts_3 10 rfl rfl)
theorem dX3_counts_95 : decode cX3_counts 95 = .ok (.ireturn, 1) := dk_172 (dk_at dksX3_counts_3 13 rfl rfl)
theorem dX3_counts_96 : decode cX3_counts 96 = .ok (.aload_n 0, 1) := dk_42 (dk_at dksX3_counts_3 14 rfl rfl)
theorem dX3_counts_97 : decode cX3_counts 97 = .ok (.invokevirtual 174, 3) := dk_182 0 174 (dk_at dksX3_counts_3 15 rfl rfl)
theorem dX3_counts_100 : decode cX3_counts 100 = .ok (.ireturn, 1) := dk_172 (dk_at dksX3_counts_3 18 rfl rfl)
theorem dX3_counts_101 : decode cX3_counts 101 = .ok (.aload_n 0, 1) := dk_42 (dk_at dksX3_counts_3 19 rfl rfl)
theorem dX3_counts_102 : decode cX3_counts 102 = .ok (.getfield 46, 3) := dk_180 0 46 (dk_at dksX3_counts_3 20 rfl rfl)
theorem dX3_counts_105 : decode cX3_counts 105 = .ok (.ireturn, 1) := dk_172 (dk_at dksX3_counts_3 23 rfl rfl)
theorem dX3_counts_106 : decode cX3_counts 106 = .ok (.aload_n 0, 1) := dk_42 (dk_at dksX3_counts_4 0 rfl rfl)
theorem dX3_counts_107 : decode cX3_counts 107 = .ok (.getfield 7, 3) := dk_180 0 7 (dk_at dksX3_counts_4 1 rfl rfl)
theorem dX3_counts_110 : decode cX3_counts 110 = .ok (.iconst 4, 1) := dk_7 (dk_at dksX3_counts_4 4 rfl rfl)
theorem dX3_counts_111 : decode cX3_counts 111 = .ok (.iload_n 1, 1) := dk_27 (dk_at dksX3_counts_4 5 rfl rfl)
theorem dX3_counts_112 : decode cX3_counts 112 = .ok (.iadd, 1) := dk_96 (dk_at dksX3_counts_4 6 rfl rfl)
theorem dX3_counts_113 : decode cX3_counts 113 = .ok (.iconst 5, 1) := dk_8 (dk_at dksX3_counts_4 7 rfl rfl)
theorem dX3_counts_114 : decode cX3_counts 114 = .ok (.isub, 1) := dk_100 (dk_at dksX3_counts_4 8 rfl rfl)
theorem dX3_counts_115 : decode cX3_counts 115 = .ok (.iaload, 1) := dk_46 (dk_at dksX3_counts_4 9 rfl rfl)
theorem dX3_counts_116 : decode cX3_counts 116 = .ok (.ireturn, 1) := dk_172 (dk_at dksX3_counts_4 10 rfl rfl)
abbrev cX3_loadOfAll : ByteArray := prog_8_method_50_code
def yX3_loadOfAll : MethodName := ⟨RX3, "loadOfAll", "()I"⟩
def dkwX3_loadOfAll_1 : List UInt8 := [132, 2, 1, 167, 255, 233, 27, 172]
abbrev dktX3_loadOfAll_1 : List UInt8 := dkwX3_loadOfAll_1 ++ []
def dkwX3_loadOfAll_0 : List UInt8 := [3, 60, 3, 61, 28, 42, 180, 0, 7, 16, 9, 46, 162, 0, 18, 27, 42, 28, 4, 182, 0, 49, 96, 60]
abbrev dktX3_loadOfAll_0 : List UInt8 := dkwX3_loadOfAll_0 ++ dktX3_loadOfAll_1
theorem dksX3_loadOfAll_0 : cX3_loadOfAll.data.toList.drop 0 = dktX3_loadOfAll_0 := by decide +kernel
theorem dksX3_loadOfAll_1 : cX3_loadOfAll.data.toList.drop 24 = dktX3_loadOfAll_1 := dk_seg dksX3_loadOfAll_0 24 rfl rfl
theorem dX3_loadOfAll_0 : decode cX3_loadOfAll 0 = .ok (.iconst 0, 1) := dk_3 (dk_at dksX3_loadOfAll_0 0 rfl rfl)
theorem dX3_loadOfAll_1 : decode cX3_loadOfAll 1 = .ok (.istore_n 1, 1) := dk_60 (dk_at dksX3_loadOfAll_0 1 rfl rfl)
theorem dX3_loadOfAll_2 : decode cX3_loadOfAll 2 = .ok (.iconst 0, 1) := dk_3 (dk_at dksX3_loadOfAll_0 2 rfl rfl)
theorem dX3_loadOfAll_3 : decode cX3_loadOfAll 3 = .ok (.istore_n 2, 1) := dk_61 (dk_at dksX3_loadOfAll_0 3 rfl rfl)
theorem dX3_loadOfAll_4 : decode cX3_loadOfAll 4 = .ok (.iload_n 2, 1) := dk_28 (dk_at dksX3_loadOfAll_0 4 rfl rfl)
theorem dX3_loadOfAll_5 : decode cX3_loadOfAll 5 = .ok (.aload_n 0, 1) := dk_42 (dk_at dksX3_loadOfAll_0 5 rfl rfl)
theorem dX3_loadOfAll_6 : decode cX3_loadOfAll 6 = .ok (.getfield 7, 3) := dk_180 0 7 (dk_at dksX3_loadOfAll_0 6 rfl rfl)
theorem dX3_loadOfAll_9 : decode cX3_loadOfAll 9 = .ok (.bipush 9, 2) := dk_16 9 (dk_at dksX3_loadOfAll_0 9 rfl rfl)
theorem dX3_loadOfAll_11 : decode cX3_loadOfAll 11 = .ok (.iaload, 1) := dk_46 (dk_at dksX3_loadOfAll_0 11 rfl rfl)
theorem dX3_loadOfAll_12 : decode cX3_loadOfAll 12 = .ok (.if_icmp .ge 18, 3) := dk_162 0 18 (dk_at dksX3_loadOfAll_0 12 rfl rfl)
theorem dX3_loadOfAll_15 : decode cX3_loadOfAll 15 = .ok (.iload_n 1, 1) := dk_27 (dk_at dksX3_loadOfAll_0 15 rfl rfl)
theorem dX3_loadOfAll_16 : decode cX3_loadOfAll 16 = .ok (.aload_n 0, 1) := dk_42 (dk_at dksX3_loadOfAll_0 16 rfl rfl)
theorem dX3_loadOfAll_17 : decode cX3_loadOfAll 17 = .ok (.iload_n 2, 1) := dk_28 (dk_at dksX3_loadOfAll_0 17 rfl rfl)
theorem dX3_loadOfAll_18 : decode cX3_loadOfAll 18 = .ok (.iconst 1, 1) := dk_4 (dk_at dksX3_loadOfAll_0 18 rfl rfl)
theorem dX3_loadOfAll_19 : decode cX3_loadOfAll 19 = .ok (.invokevirtual 49, 3) := dk_182 0 49 (dk_at dksX3_loadOfAll_0 19 rfl rfl)
theorem dX3_loadOfAll_22 : decode cX3_loadOfAll 22 = .ok (.iadd, 1) := dk_96 (dk_at dksX3_loadOfAll_0 22 rfl rfl)
theorem dX3_loadOfAll_23 : decode cX3_loadOfAll 23 = .ok (.istore_n 1, 1) := dk_60 (dk_at dksX3_loadOfAll_0 23 rfl rfl)
theorem dX3_loadOfAll_24 : decode cX3_loadOfAll 24 = .ok (.iinc 2 1, 3) := dk_132 2 1 (dk_at dksX3_loadOfAll_1 0 rfl rfl)
theorem dX3_loadOfAll_27 : decode cX3_loadOfAll 27 = .ok (.goto (-23), 3) := dk_167 255 233 (dk_at dksX3_loadOfAll_1 3 rfl rfl)
theorem dX3_loadOfAll_30 : decode cX3_loadOfAll 30 = .ok (.iload_n 1, 1) := dk_27 (dk_at dksX3_loadOfAll_1 6 rfl rfl)
theorem dX3_loadOfAll_31 : decode cX3_loadOfAll 31 = .ok (.ireturn, 1) := dk_172 (dk_at dksX3_loadOfAll_1 7 rfl rfl)
abbrev cX3_greatest : ByteArray := prog_8_method_12_code
def yX3_greatest : MethodName := ⟨RX3, "greatest", "()I"⟩
def dkwX3_greatest_1 : List UInt8 := [167, 0, 4, 27, 60, 132, 2, 1, 167, 255, 228, 27, 172]
abbrev dktX3_greatest_1 : List UInt8 := dkwX3_greatest_1 ++ []
def dkwX3_greatest_0 : List UInt8 := [3, 60, 3, 61, 28, 16, 12, 162, 0, 28, 42, 28, 182, 0, 56, 27, 164, 0, 11, 42, 28, 182, 0, 56]
abbrev dktX3_greatest_0 : List UInt8 := dkwX3_greatest_0 ++ dktX3_greatest_1
theorem dksX3_greatest_0 : cX3_greatest.data.toList.drop 0 = dktX3_greatest_0 := by decide +kernel
theorem dksX3_greatest_1 : cX3_greatest.data.toList.drop 24 = dktX3_greatest_1 := dk_seg dksX3_greatest_0 24 rfl rfl
theorem dX3_greatest_0 : decode cX3_greatest 0 = .ok (.iconst 0, 1) := dk_3 (dk_at dksX3_greatest_0 0 rfl rfl)
theorem dX3_greatest_1 : decode cX3_greatest 1 = .ok (.istore_n 1, 1) := dk_60 (dk_at dksX3_greatest_0 1 rfl rfl)
theorem dX3_greatest_2 : decode cX3_greatest 2 = .ok (.iconst 0, 1) := dk_3 (dk_at dksX3_greatest_0 2 rfl rfl)
theorem dX3_greatest_3 : decode cX3_greatest 3 = .ok (.istore_n 2, 1) := dk_61 (dk_at dksX3_greatest_0 3 rfl rfl)
theorem dX3_greatest_4 : decode cX3_greatest 4 = .ok (.iload_n 2, 1) := dk_28 (dk_at dksX3_greatest_0 4 rfl rfl)
theorem dX3_greatest_5 : decode cX3_greatest 5 = .ok (.bipush 12, 2) := dk_16 12 (dk_at dksX3_greatest_0 5 rfl rfl)
theorem dX3_greatest_7 : decode cX3_greatest 7 = .ok (.if_icmp .ge 28, 3) := dk_162 0 28 (dk_at dksX3_greatest_0 7 rfl rfl)
theorem dX3_greatest_10 : decode cX3_greatest 10 = .ok (.aload_n 0, 1) := dk_42 (dk_at dksX3_greatest_0 10 rfl rfl)
theorem dX3_greatest_11 : decode cX3_greatest 11 = .ok (.iload_n 2, 1) := dk_28 (dk_at dksX3_greatest_0 11 rfl rfl)
theorem dX3_greatest_12 : decode cX3_greatest 12 = .ok (.invokevirtual 56, 3) := dk_182 0 56 (dk_at dksX3_greatest_0 12 rfl rfl)
theorem dX3_greatest_15 : decode cX3_greatest 15 = .ok (.iload_n 1, 1) := dk_27 (dk_at dksX3_greatest_0 15 rfl rfl)
theorem dX3_greatest_16 : decode cX3_greatest 16 = .ok (.if_icmp .le 11, 3) := dk_164 0 11 (dk_at dksX3_greatest_0 16 rfl rfl)
theorem dX3_greatest_19 : decode cX3_greatest 19 = .ok (.aload_n 0, 1) := dk_42 (dk_at dksX3_greatest_0 19 rfl rfl)
theorem dX3_greatest_20 : decode cX3_greatest 20 = .ok (.iload_n 2, 1) := dk_28 (dk_at dksX3_greatest_0 20 rfl rfl)
theorem dX3_greatest_21 : decode cX3_greatest 21 = .ok (.invokevirtual 56, 3) := dk_182 0 56 (dk_at dksX3_greatest_0 21 rfl rfl)
theorem dX3_greatest_24 : decode cX3_greatest 24 = .ok (.goto 4, 3) := dk_167 0 4 (dk_at dksX3_greatest_1 0 rfl rfl)
theorem dX3_greatest_27 : decode cX3_greatest 27 = .ok (.iload_n 1, 1) := dk_27 (dk_at dksX3_greatest_1 3 rfl rfl)
theorem dX3_greatest_28 : decode cX3_greatest 28 = .ok (.istore_n 1, 1) := dk_60 (dk_at dksX3_greatest_1 4 rfl rfl)
theorem dX3_greatest_29 : decode cX3_greatest 29 = .ok (.iinc 2 1, 3) := dk_132 2 1 (dk_at dksX3_greatest_1 5 rfl rfl)
theorem dX3_greatest_32 : decode cX3_greatest 32 = .ok (.goto (-28), 3) := dk_167 255 228 (dk_at dksX3_greatest_1 8 rfl rfl)
theorem dX3_greatest_35 : decode cX3_greatest 35 = .ok (.iload_n 1, 1) := dk_27 (dk_at dksX3_greatest_1 11 rfl rfl)
theorem dX3_greatest_36 : decode cX3_greatest 36 = .ok (.ireturn, 1) := dk_172 (dk_at dksX3_greatest_1 12 rfl rfl)
abbrev cX3_jammed : ByteArray := prog_8_method_51_code
def yX3_jammed : MethodName := ⟨RX3, "jammed", "()I"⟩
def dkwX3_jammed_1 : List UInt8 := [132, 2, 1, 167, 255, 235, 27, 172]
abbrev dktX3_jammed_1 : List UInt8 := dkwX3_jammed_1 ++ []
def dkwX3_jammed_0 : List UInt8 := [3, 60, 3, 61, 28, 16, 12, 162, 0, 21, 27, 42, 180, 0, 7, 16, 10, 28, 96, 46, 96, 60]
abbrev dktX3_jammed_0 : List UInt8 := dkwX3_jammed_0 ++ dktX3_jammed_1
theorem dksX3_jammed_0 : cX3_jammed.data.toList.drop 0 = dktX3_jammed_0 := by decide +kernel
theorem dksX3_jammed_1 : cX3_jammed.data.toList.drop 22 = dktX3_jammed_1 := dk_seg dksX3_jammed_0 22 rfl rfl
theorem dX3_jammed_0 : decode cX3_jammed 0 = .ok (.iconst 0, 1) := dk_3 (dk_at dksX3_jammed_0 0 rfl rfl)
theorem dX3_jammed_1 : decode cX3_jammed 1 = .ok (.istore_n 1, 1) := dk_60 (dk_at dksX3_jammed_0 1 rfl rfl)
theorem dX3_jammed_2 : decode cX3_jammed 2 = .ok (.iconst 0, 1) := dk_3 (dk_at dksX3_jammed_0 2 rfl rfl)
theorem dX3_jammed_3 : decode cX3_jammed 3 = .ok (.istore_n 2, 1) := dk_61 (dk_at dksX3_jammed_0 3 rfl rfl)
theorem dX3_jammed_4 : decode cX3_jammed 4 = .ok (.iload_n 2, 1) := dk_28 (dk_at dksX3_jammed_0 4 rfl rfl)
theorem dX3_jammed_5 : decode cX3_jammed 5 = .ok (.bipush 12, 2) := dk_16 12 (dk_at dksX3_jammed_0 5 rfl rfl)
theorem dX3_jammed_7 : decode cX3_jammed 7 = .ok (.if_icmp .ge 21, 3) := dk_162 0 21 (dk_at dksX3_jammed_0 7 rfl rfl)
theorem dX3_jammed_10 : decode cX3_jammed 10 = .ok (.iload_n 1, 1) := dk_27 (dk_at dksX3_jammed_0 10 rfl rfl)
theorem dX3_jammed_11 : decode cX3_jammed 11 = .ok (.aload_n 0, 1) := dk_42 (dk_at dksX3_jammed_0 11 rfl rfl)
theorem dX3_jammed_12 : decode cX3_jammed 12 = .ok (.getfield 7, 3) := dk_180 0 7 (dk_at dksX3_jammed_0 12 rfl rfl)
theorem dX3_jammed_15 : decode cX3_jammed 15 = .ok (.bipush 10, 2) := dk_16 10 (dk_at dksX3_jammed_0 15 rfl rfl)
theorem dX3_jammed_17 : decode cX3_jammed 17 = .ok (.iload_n 2, 1) := dk_28 (dk_at dksX3_jammed_0 17 rfl rfl)
theorem dX3_jammed_18 : decode cX3_jammed 18 = .ok (.iadd, 1) := dk_96 (dk_at dksX3_jammed_0 18 rfl rfl)
theorem dX3_jammed_19 : decode cX3_jammed 19 = .ok (.iaload, 1) := dk_46 (dk_at dksX3_jammed_0 19 rfl rfl)
theorem dX3_jammed_20 : decode cX3_jammed 20 = .ok (.iadd, 1) := dk_96 (dk_at dksX3_jammed_0 20 rfl rfl)
theorem dX3_jammed_21 : decode cX3_jammed 21 = .ok (.istore_n 1, 1) := dk_60 (dk_at dksX3_jammed_0 21 rfl rfl)
theorem dX3_jammed_22 : decode cX3_jammed 22 = .ok (.iinc 2 1, 3) := dk_132 2 1 (dk_at dksX3_jammed_1 0 rfl rfl)
theorem dX3_jammed_25 : decode cX3_jammed 25 = .ok (.goto (-21), 3) := dk_167 255 235 (dk_at dksX3_jammed_1 3 rfl rfl)
theorem dX3_jammed_28 : decode cX3_jammed 28 = .ok (.iload_n 1, 1) := dk_27 (dk_at dksX3_jammed_1 6 rfl rfl)
theorem dX3_jammed_29 : decode cX3_jammed 29 = .ok (.ireturn, 1) := dk_172 (dk_at dksX3_jammed_1 7 rfl rfl)
abbrev cX3_setting : ByteArray := prog_8_method_54_code
def yX3_setting : MethodName := ⟨RX3, "setting", "(I)I"⟩
def dkwX3_setting_1 : List UInt8 := [4, 182, 0, 121, 172]
abbrev dktX3_setting_1 : List UInt8 := dkwX3_setting_1 ++ []
def dkwX3_setting_0 : List UInt8 := [42, 3, 181, 0, 38, 27, 3, 5, 184, 0, 42, 153, 0, 12, 42, 180, 0, 7, 27, 46, 167, 0, 8, 42]
abbrev dktX3_setting_0 : List UInt8 := dkwX3_setting_0 ++ dktX3_setting_1
theorem dksX3_setting_0 : cX3_setting.data.toList.drop 0 = dktX3_setting_0 := by decide +kernel
theorem dksX3_setting_1 : cX3_setting.data.toList.drop 24 = dktX3_setting_1 := dk_seg dksX3_setting_0 24 rfl rfl
theorem dX3_setting_0 : decode cX3_setting 0 = .ok (.aload_n 0, 1) := dk_42 (dk_at dksX3_setting_0 0 rfl rfl)
theorem dX3_setting_1 : decode cX3_setting 1 = .ok (.iconst 0, 1) := dk_3 (dk_at dksX3_setting_0 1 rfl rfl)
theorem dX3_setting_2 : decode cX3_setting 2 = .ok (.putfield 38, 3) := dk_181 0 38 (dk_at dksX3_setting_0 2 rfl rfl)
theorem dX3_setting_5 : decode cX3_setting 5 = .ok (.iload_n 1, 1) := dk_27 (dk_at dksX3_setting_0 5 rfl rfl)
theorem dX3_setting_6 : decode cX3_setting 6 = .ok (.iconst 0, 1) := dk_3 (dk_at dksX3_setting_0 6 rfl rfl)
theorem dX3_setting_7 : decode cX3_setting 7 = .ok (.iconst 2, 1) := dk_5 (dk_at dksX3_setting_0 7 rfl rfl)
theorem dX3_setting_8 : decode cX3_setting 8 = .ok (.invokestatic 42, 3) := dk_184 0 42 (dk_at dksX3_setting_0 8 rfl rfl)
theorem dX3_setting_11 : decode cX3_setting 11 = .ok (.ifCond .eq 12, 3) := dk_153 0 12 (dk_at dksX3_setting_0 11 rfl rfl)
theorem dX3_setting_14 : decode cX3_setting 14 = .ok (.aload_n 0, 1) := dk_42 (dk_at dksX3_setting_0 14 rfl rfl)
theorem dX3_setting_15 : decode cX3_setting 15 = .ok (.getfield 7, 3) := dk_180 0 7 (dk_at dksX3_setting_0 15 rfl rfl)
theorem dX3_setting_18 : decode cX3_setting 18 = .ok (.iload_n 1, 1) := dk_27 (dk_at dksX3_setting_0 18 rfl rfl)
theorem dX3_setting_19 : decode cX3_setting 19 = .ok (.iaload, 1) := dk_46 (dk_at dksX3_setting_0 19 rfl rfl)
theorem dX3_setting_20 : decode cX3_setting 20 = .ok (.goto 8, 3) := dk_167 0 8 (dk_at dksX3_setting_0 20 rfl rfl)
theorem dX3_setting_23 : decode cX3_setting 23 = .ok (.aload_n 0, 1) := dk_42 (dk_at dksX3_setting_0 23 rfl rfl)
theorem dX3_setting_24 : decode cX3_setting 24 = .ok (.iconst 1, 1) := dk_4 (dk_at dksX3_setting_1 0 rfl rfl)
theorem dX3_setting_25 : decode cX3_setting 25 = .ok (.invokevirtual 121, 3) := dk_182 0 121 (dk_at dksX3_setting_1 1 rfl rfl)
theorem dX3_setting_28 : decode cX3_setting 28 = .ok (.ireturn, 1) := dk_172 (dk_at dksX3_setting_1 4 rfl rfl)
abbrev cX3_refusal : ByteArray := prog_8_method_55_code
def yX3_refusal : MethodName := ⟨RX3, "refusal", "(I)I"⟩
def dkwX3_refusal_0 : List UInt8 := [42, 3, 181, 0, 38, 42, 27, 182, 0, 86, 172]
abbrev dktX3_refusal_0 : List UInt8 := dkwX3_refusal_0 ++ []
theorem dksX3_refusal_0 : cX3_refusal.data.toList.drop 0 = dktX3_refusal_0 := by decide +kernel
theorem dX3_refusal_0 : decode cX3_refusal 0 = .ok (.aload_n 0, 1) := dk_42 (dk_at dksX3_refusal_0 0 rfl rfl)
theorem dX3_refusal_1 : decode cX3_refusal 1 = .ok (.iconst 0, 1) := dk_3 (dk_at dksX3_refusal_0 1 rfl rfl)
theorem dX3_refusal_2 : decode cX3_refusal 2 = .ok (.putfield 38, 3) := dk_181 0 38 (dk_at dksX3_refusal_0 2 rfl rfl)
theorem dX3_refusal_5 : decode cX3_refusal 5 = .ok (.aload_n 0, 1) := dk_42 (dk_at dksX3_refusal_0 5 rfl rfl)
theorem dX3_refusal_6 : decode cX3_refusal 6 = .ok (.iload_n 1, 1) := dk_27 (dk_at dksX3_refusal_0 6 rfl rfl)
theorem dX3_refusal_7 : decode cX3_refusal 7 = .ok (.invokevirtual 86, 3) := dk_182 0 86 (dk_at dksX3_refusal_0 7 rfl rfl)
theorem dX3_refusal_10 : decode cX3_refusal 10 = .ok (.ireturn, 1) := dk_172 (dk_at dksX3_refusal_0 10 rfl rfl)
abbrev cX3_way : ByteArray := prog_8_method_56_code
def yX3_way : MethodName := ⟨RX3, "way", "(I)I"⟩
def dkwX3_way_1 : List UInt8 := [182, 0, 121, 172]
abbrev dktX3_way_1 : List UInt8 := dkwX3_way_1 ++ []
def dkwX3_way_0 : List UInt8 := [42, 3, 181, 0, 38, 27, 184, 0, 117, 153, 0, 11, 42, 27, 182, 0, 64, 167, 0, 8, 42, 4]
abbrev dktX3_way_0 : List UInt8 := dkwX3_way_0 ++ dktX3_way_1
theorem dksX3_way_0 : cX3_way.data.toList.drop 0 = dktX3_way_0 := by decide +kernel
theorem dksX3_way_1 : cX3_way.data.toList.drop 22 = dktX3_way_1 := dk_seg dksX3_way_0 22 rfl rfl
theorem dX3_way_0 : decode cX3_way 0 = .ok (.aload_n 0, 1) := dk_42 (dk_at dksX3_way_0 0 rfl rfl)
theorem dX3_way_1 : decode cX3_way 1 = .ok (.iconst 0, 1) := dk_3 (dk_at dksX3_way_0 1 rfl rfl)
theorem dX3_way_2 : decode cX3_way 2 = .ok (.putfield 38, 3) := dk_181 0 38 (dk_at dksX3_way_0 2 rfl rfl)
theorem dX3_way_5 : decode cX3_way 5 = .ok (.iload_n 1, 1) := dk_27 (dk_at dksX3_way_0 5 rfl rfl)
theorem dX3_way_6 : decode cX3_way 6 = .ok (.invokestatic 117, 3) := dk_184 0 117 (dk_at dksX3_way_0 6 rfl rfl)
theorem dX3_way_9 : decode cX3_way 9 = .ok (.ifCond .eq 11, 3) := dk_153 0 11 (dk_at dksX3_way_0 9 rfl rfl)
theorem dX3_way_12 : decode cX3_way 12 = .ok (.aload_n 0, 1) := dk_42 (dk_at dksX3_way_0 12 rfl rfl)
theorem dX3_way_13 : decode cX3_way 13 = .ok (.iload_n 1, 1) := dk_27 (dk_at dksX3_way_0 13 rfl rfl)
theorem dX3_way_14 : decode cX3_way 14 = .ok (.invokevirtual 64, 3) := dk_182 0 64 (dk_at dksX3_way_0 14 rfl rfl)
theorem dX3_way_17 : decode cX3_way 17 = .ok (.goto 8, 3) := dk_167 0 8 (dk_at dksX3_way_0 17 rfl rfl)
theorem dX3_way_20 : decode cX3_way 20 = .ok (.aload_n 0, 1) := dk_42 (dk_at dksX3_way_0 20 rfl rfl)
theorem dX3_way_21 : decode cX3_way 21 = .ok (.iconst 1, 1) := dk_4 (dk_at dksX3_way_0 21 rfl rfl)
theorem dX3_way_22 : decode cX3_way 22 = .ok (.invokevirtual 121, 3) := dk_182 0 121 (dk_at dksX3_way_1 0 rfl rfl)
theorem dX3_way_25 : decode cX3_way 25 = .ok (.ireturn, 1) := dk_172 (dk_at dksX3_way_1 3 rfl rfl)
abbrev cX3_ifPut : ByteArray := prog_8_method_58_code
def yX3_ifPut : MethodName := ⟨RX3, "ifPut", "(II)I"⟩
def dkwX3_ifPut_1 : List UInt8 := [184, 0, 42, 153, 0, 12, 42, 27, 28, 182, 0, 180, 167, 0, 8, 42, 5, 182, 0, 121, 172]
abbrev dktX3_ifPut_1 : List UInt8 := dkwX3_ifPut_1 ++ []
def dkwX3_ifPut_0 : List UInt8 := [42, 3, 181, 0, 38, 27, 184, 0, 117, 154, 0, 9, 42, 4, 182, 0, 121, 172, 28, 4, 16, 20]
abbrev dktX3_ifPut_0 : List UInt8 := dkwX3_ifPut_0 ++ dktX3_ifPut_1
theorem dksX3_ifPut_0 : cX3_ifPut.data.toList.drop 0 = dktX3_ifPut_0 := by decide +kernel
theorem dksX3_ifPut_1 : cX3_ifPut.data.toList.drop 22 = dktX3_ifPut_1 := dk_seg dksX3_ifPut_0 22 rfl rfl
theorem dX3_ifPut_0 : decode cX3_ifPut 0 = .ok (.aload_n 0, 1) := dk_42 (dk_at dksX3_ifPut_0 0 rfl rfl)
theorem dX3_ifPut_1 : decode cX3_ifPut 1 = .ok (.iconst 0, 1) := dk_3 (dk_at dksX3_ifPut_0 1 rfl rfl)
theorem dX3_ifPut_2 : decode cX3_ifPut 2 = .ok (.putfield 38, 3) := dk_181 0 38 (dk_at dksX3_ifPut_0 2 rfl rfl)
theorem dX3_ifPut_5 : decode cX3_ifPut 5 = .ok (.iload_n 1, 1) := dk_27 (dk_at dksX3_ifPut_0 5 rfl rfl)
theorem dX3_ifPut_6 : decode cX3_ifPut 6 = .ok (.invokestatic 117, 3) := dk_184 0 117 (dk_at dksX3_ifPut_0 6 rfl rfl)
theorem dX3_ifPut_9 : decode cX3_ifPut 9 = .ok (.ifCond .ne 9, 3) := dk_154 0 9 (dk_at dksX3_ifPut_0 9 rfl rfl)
theorem dX3_ifPut_12 : decode cX3_ifPut 12 = .ok (.aload_n 0, 1) := dk_42 (dk_at dksX3_ifPut_0 12 rfl rfl)
theorem dX3_ifPut_13 : decode cX3_ifPut 13 = .ok (.iconst 1, 1) := dk_4 (dk_at dksX3_ifPut_0 13 rfl rfl)
theorem dX3_ifPut_14 : decode cX3_ifPut 14 = .ok (.invokevirtual 121, 3) := dk_182 0 121 (dk_at dksX3_ifPut_0 14 rfl rfl)
theorem dX3_ifPut_17 : decode cX3_ifPut 17 = .ok (.ireturn, 1) := dk_172 (dk_at dksX3_ifPut_0 17 rfl rfl)
theorem dX3_ifPut_18 : decode cX3_ifPut 18 = .ok (.iload_n 2, 1) := dk_28 (dk_at dksX3_ifPut_0 18 rfl rfl)
theorem dX3_ifPut_19 : decode cX3_ifPut 19 = .ok (.iconst 1, 1) := dk_4 (dk_at dksX3_ifPut_0 19 rfl rfl)
theorem dX3_ifPut_20 : decode cX3_ifPut 20 = .ok (.bipush 20, 2) := dk_16 20 (dk_at dksX3_ifPut_0 20 rfl rfl)
theorem dX3_ifPut_22 : decode cX3_ifPut 22 = .ok (.invokestatic 42, 3) := dk_184 0 42 (dk_at dksX3_ifPut_1 0 rfl rfl)
theorem dX3_ifPut_25 : decode cX3_ifPut 25 = .ok (.ifCond .eq 12, 3) := dk_153 0 12 (dk_at dksX3_ifPut_1 3 rfl rfl)
theorem dX3_ifPut_28 : decode cX3_ifPut 28 = .ok (.aload_n 0, 1) := dk_42 (dk_at dksX3_ifPut_1 6 rfl rfl)
theorem dX3_ifPut_29 : decode cX3_ifPut 29 = .ok (.iload_n 1, 1) := dk_27 (dk_at dksX3_ifPut_1 7 rfl rfl)
theorem dX3_ifPut_30 : decode cX3_ifPut 30 = .ok (.iload_n 2, 1) := dk_28 (dk_at dksX3_ifPut_1 8 rfl rfl)
theorem dX3_ifPut_31 : decode cX3_ifPut 31 = .ok (.invokevirtual 180, 3) := dk_182 0 180 (dk_at dksX3_ifPut_1 9 rfl rfl)
theorem dX3_ifPut_34 : decode cX3_ifPut 34 = .ok (.goto 8, 3) := dk_167 0 8 (dk_at dksX3_ifPut_1 12 rfl rfl)
theorem dX3_ifPut_37 : decode cX3_ifPut 37 = .ok (.aload_n 0, 1) := dk_42 (dk_at dksX3_ifPut_1 15 rfl rfl)
theorem dX3_ifPut_38 : decode cX3_ifPut 38 = .ok (.iconst 2, 1) := dk_5 (dk_at dksX3_ifPut_1 16 rfl rfl)
theorem dX3_ifPut_39 : decode cX3_ifPut 39 = .ok (.invokevirtual 121, 3) := dk_182 0 121 (dk_at dksX3_ifPut_1 17 rfl rfl)
theorem dX3_ifPut_42 : decode cX3_ifPut 42 = .ok (.ireturn, 1) := dk_172 (dk_at dksX3_ifPut_1 20 rfl rfl)
abbrev cX3_greatestWith : ByteArray := prog_8_method_57_code
def yX3_greatestWith : MethodName := ⟨RX3, "greatestWith", "(II)I"⟩
def dkwX3_greatestWith_5 : List UInt8 := [132, 4, 1, 167, 255, 143, 29, 172]
abbrev dktX3_greatestWith_5 : List UInt8 := dkwX3_greatestWith_5 ++ []
def dkwX3_greatestWith_4 : List UInt8 := [167, 255, 181, 21, 5, 184, 0, 67, 29, 164, 0, 11, 21, 5, 184, 0, 67, 167, 0, 4, 29, 62]
abbrev dktX3_greatestWith_4 : List UInt8 := dkwX3_greatestWith_4 ++ dktX3_greatestWith_5
def dkwX3_greatestWith_3 : List UInt8 := [167, 0, 18, 21, 7, 16, 6, 162, 0, 8, 21, 8, 167, 0, 6, 21, 8, 116, 96, 54, 5, 132, 6, 1]
abbrev dktX3_greatestWith_3 : List UInt8 := dkwX3_greatestWith_3 ++ dktX3_greatestWith_4
def dkwX3_greatestWith_2 : List UInt8 := [28, 167, 0, 4, 3, 96, 54, 8, 21, 5, 21, 7, 153, 0, 10, 21, 7, 16, 6, 160, 0, 7, 3]
abbrev dktX3_greatestWith_2 : List UInt8 := dkwX3_greatestWith_2 ++ dktX3_greatestWith_3
def dkwX3_greatestWith_1 : List UInt8 := [162, 0, 74, 21, 6, 21, 4, 184, 0, 53, 54, 7, 42, 21, 6, 182, 0, 124, 21, 6, 27, 160, 0, 7]
abbrev dktX3_greatestWith_1 : List UInt8 := dkwX3_greatestWith_1 ++ dktX3_greatestWith_2
def dkwX3_greatestWith_0 : List UInt8 := [3, 62, 3, 54, 4, 21, 4, 16, 12, 162, 0, 112, 3, 54, 5, 3, 54, 6, 21, 6, 16, 12]
abbrev dktX3_greatestWith_0 : List UInt8 := dkwX3_greatestWith_0 ++ dktX3_greatestWith_1
theorem dksX3_greatestWith_0 : cX3_greatestWith.data.toList.drop 0 = dktX3_greatestWith_0 := by decide +kernel
theorem dksX3_greatestWith_1 : cX3_greatestWith.data.toList.drop 22 = dktX3_greatestWith_1 := dk_seg dksX3_greatestWith_0 22 rfl rfl
theorem dksX3_greatestWith_2 : cX3_greatestWith.data.toList.drop 46 = dktX3_greatestWith_2 := dk_seg dksX3_greatestWith_1 24 rfl rfl
theorem dksX3_greatestWith_3 : cX3_greatestWith.data.toList.drop 69 = dktX3_greatestWith_3 := dk_seg dksX3_greatestWith_2 23 rfl rfl
theorem dksX3_greatestWith_4 : cX3_greatestWith.data.toList.drop 93 = dktX3_greatestWith_4 := dk_seg dksX3_greatestWith_3 24 rfl rfl
theorem dksX3_greatestWith_5 : cX3_greatestWith.data.toList.drop 115 = dktX3_greatestWith_5 := dk_seg dksX3_greatestWith_4 22 rfl rfl
theorem dX3_greatestWith_0 : decode cX3_greatestWith 0 = .ok (.iconst 0, 1) := dk_3 (dk_at dksX3_greatestWith_0 0 rfl rfl)
theorem dX3_greatestWith_1 : decode cX3_greatestWith 1 = .ok (.istore_n 3, 1) := dk_62 (dk_at dksX3_greatestWith_0 1 rfl rfl)
theorem dX3_greatestWith_2 : decode cX3_greatestWith 2 = .ok (.iconst 0, 1) := dk_3 (dk_at dksX3_greatestWith_0 2 rfl rfl)
theorem dX3_greatestWith_3 : decode cX3_greatestWith 3 = .ok (.istore 4, 2) := dk_54 4 (dk_at dksX3_greatestWith_0 3 rfl rfl)
theorem dX3_greatestWith_5 : decode cX3_greatestWith 5 = .ok (.iload 4, 2) := dk_21 4 (dk_at dksX3_greatestWith_0 5 rfl rfl)
theorem dX3_greatestWith_7 : decode cX3_greatestWith 7 = .ok (.bipush 12, 2) := dk_16 12 (dk_at dksX3_greatestWith_0 7 rfl rfl)
theorem dX3_greatestWith_9 : decode cX3_greatestWith 9 = .ok (.if_icmp .ge 112, 3) := dk_162 0 112 (dk_at dksX3_greatestWith_0 9 rfl rfl)
theorem dX3_greatestWith_12 : decode cX3_greatestWith 12 = .ok (.iconst 0, 1) := dk_3 (dk_at dksX3_greatestWith_0 12 rfl rfl)
theorem dX3_greatestWith_13 : decode cX3_greatestWith 13 = .ok (.istore 5, 2) := dk_54 5 (dk_at dksX3_greatestWith_0 13 rfl rfl)
theorem dX3_greatestWith_15 : decode cX3_greatestWith 15 = .ok (.iconst 0, 1) := dk_3 (dk_at dksX3_greatestWith_0 15 rfl rfl)
theorem dX3_greatestWith_16 : decode cX3_greatestWith 16 = .ok (.istore 6, 2) := dk_54 6 (dk_at dksX3_greatestWith_0 16 rfl rfl)
theorem dX3_greatestWith_18 : decode cX3_greatestWith 18 = .ok (.iload 6, 2) := dk_21 6 (dk_at dksX3_greatestWith_0 18 rfl rfl)
theorem dX3_greatestWith_20 : decode cX3_greatestWith 20 = .ok (.bipush 12, 2) := dk_16 12 (dk_at dksX3_greatestWith_0 20 rfl rfl)
theorem dX3_greatestWith_22 : decode cX3_greatestWith 22 = .ok (.if_icmp .ge 74, 3) := dk_162 0 74 (dk_at dksX3_greatestWith_1 0 rfl rfl)
theorem dX3_greatestWith_25 : decode cX3_greatestWith 25 = .ok (.iload 6, 2) := dk_21 6 (dk_at dksX3_greatestWith_1 3 rfl rfl)
theorem dX3_greatestWith_27 : decode cX3_greatestWith 27 = .ok (.iload 4, 2) := dk_21 4 (dk_at dksX3_greatestWith_1 5 rfl rfl)
theorem dX3_greatestWith_29 : decode cX3_greatestWith 29 = .ok (.invokestatic 53, 3) := dk_184 0 53 (dk_at dksX3_greatestWith_1 7 rfl rfl)
theorem dX3_greatestWith_32 : decode cX3_greatestWith 32 = .ok (.istore 7, 2) := dk_54 7 (dk_at dksX3_greatestWith_1 10 rfl rfl)
theorem dX3_greatestWith_34 : decode cX3_greatestWith 34 = .ok (.aload_n 0, 1) := dk_42 (dk_at dksX3_greatestWith_1 12 rfl rfl)
theorem dX3_greatestWith_35 : decode cX3_greatestWith 35 = .ok (.iload 6, 2) := dk_21 6 (dk_at dksX3_greatestWith_1 13 rfl rfl)
theorem dX3_greatestWith_37 : decode cX3_greatestWith 37 = .ok (.invokevirtual 124, 3) := dk_182 0 124 (dk_at dksX3_greatestWith_1 15 rfl rfl)
theorem dX3_greatestWith_40 : decode cX3_greatestWith 40 = .ok (.iload 6, 2) := dk_21 6 (dk_at dksX3_greatestWith_1 18 rfl rfl)
theorem dX3_greatestWith_42 : decode cX3_greatestWith 42 = .ok (.iload_n 1, 1) := dk_27 (dk_at dksX3_greatestWith_1 20 rfl rfl)
theorem dX3_greatestWith_43 : decode cX3_greatestWith 43 = .ok (.if_icmp .ne 7, 3) := dk_160 0 7 (dk_at dksX3_greatestWith_1 21 rfl rfl)
theorem dX3_greatestWith_46 : decode cX3_greatestWith 46 = .ok (.iload_n 2, 1) := dk_28 (dk_at dksX3_greatestWith_2 0 rfl rfl)
theorem dX3_greatestWith_47 : decode cX3_greatestWith 47 = .ok (.goto 4, 3) := dk_167 0 4 (dk_at dksX3_greatestWith_2 1 rfl rfl)
theorem dX3_greatestWith_50 : decode cX3_greatestWith 50 = .ok (.iconst 0, 1) := dk_3 (dk_at dksX3_greatestWith_2 4 rfl rfl)
theorem dX3_greatestWith_51 : decode cX3_greatestWith 51 = .ok (.iadd, 1) := dk_96 (dk_at dksX3_greatestWith_2 5 rfl rfl)
theorem dX3_greatestWith_52 : decode cX3_greatestWith 52 = .ok (.istore 8, 2) := dk_54 8 (dk_at dksX3_greatestWith_2 6 rfl rfl)
theorem dX3_greatestWith_54 : decode cX3_greatestWith 54 = .ok (.iload 5, 2) := dk_21 5 (dk_at dksX3_greatestWith_2 8 rfl rfl)
theorem dX3_greatestWith_56 : decode cX3_greatestWith 56 = .ok (.iload 7, 2) := dk_21 7 (dk_at dksX3_greatestWith_2 10 rfl rfl)
theorem dX3_greatestWith_58 : decode cX3_greatestWith 58 = .ok (.ifCond .eq 10, 3) := dk_153 0 10 (dk_at dksX3_greatestWith_2 12 rfl rfl)
theorem dX3_greatestWith_61 : decode cX3_greatestWith 61 = .ok (.iload 7, 2) := dk_21 7 (dk_at dksX3_greatestWith_2 15 rfl rfl)
theorem dX3_greatestWith_63 : decode cX3_greatestWith 63 = .ok (.bipush 6, 2) := dk_16 6 (dk_at dksX3_greatestWith_2 17 rfl rfl)
theorem dX3_greatestWith_65 : decode cX3_greatestWith 65 = .ok (.if_icmp .ne 7, 3) := dk_160 0 7 (dk_at dksX3_greatestWith_2 19 rfl rfl)
theorem dX3_greatestWith_68 : decode cX3_greatestWith 68 = .ok (.iconst 0, 1) := dk_3 (dk_at dksX3_greatestWith_2 22 rfl rfl)
theorem dX3_greatestWith_69 : decode cX3_greatestWith 69 = .ok (.goto 18, 3) := dk_167 0 18 (dk_at dksX3_greatestWith_3 0 rfl rfl)
theorem dX3_greatestWith_72 : decode cX3_greatestWith 72 = .ok (.iload 7, 2) := dk_21 7 (dk_at dksX3_greatestWith_3 3 rfl rfl)
theorem dX3_greatestWith_74 : decode cX3_greatestWith 74 = .ok (.bipush 6, 2) := dk_16 6 (dk_at dksX3_greatestWith_3 5 rfl rfl)
theorem dX3_greatestWith_76 : decode cX3_greatestWith 76 = .ok (.if_icmp .ge 8, 3) := dk_162 0 8 (dk_at dksX3_greatestWith_3 7 rfl rfl)
theorem dX3_greatestWith_79 : decode cX3_greatestWith 79 = .ok (.iload 8, 2) := dk_21 8 (dk_at dksX3_greatestWith_3 10 rfl rfl)
theorem dX3_greatestWith_81 : decode cX3_greatestWith 81 = .ok (.goto 6, 3) := dk_167 0 6 (dk_at dksX3_greatestWith_3 12 rfl rfl)
theorem dX3_greatestWith_84 : decode cX3_greatestWith 84 = .ok (.iload 8, 2) := dk_21 8 (dk_at dksX3_greatestWith_3 15 rfl rfl)
theorem dX3_greatestWith_86 : decode cX3_greatestWith 86 = .ok (.ineg, 1) := dk_116 (dk_at dksX3_greatestWith_3 17 rfl rfl)
theorem dX3_greatestWith_87 : decode cX3_greatestWith 87 = .ok (.iadd, 1) := dk_96 (dk_at dksX3_greatestWith_3 18 rfl rfl)
theorem dX3_greatestWith_88 : decode cX3_greatestWith 88 = .ok (.istore 5, 2) := dk_54 5 (dk_at dksX3_greatestWith_3 19 rfl rfl)
theorem dX3_greatestWith_90 : decode cX3_greatestWith 90 = .ok (.iinc 6 1, 3) := dk_132 6 1 (dk_at dksX3_greatestWith_3 21 rfl rfl)
theorem dX3_greatestWith_93 : decode cX3_greatestWith 93 = .ok (.goto (-75), 3) := dk_167 255 181 (dk_at dksX3_greatestWith_4 0 rfl rfl)
theorem dX3_greatestWith_96 : decode cX3_greatestWith 96 = .ok (.iload 5, 2) := dk_21 5 (dk_at dksX3_greatestWith_4 3 rfl rfl)
theorem dX3_greatestWith_98 : decode cX3_greatestWith 98 = .ok (.invokestatic 67, 3) := dk_184 0 67 (dk_at dksX3_greatestWith_4 5 rfl rfl)
theorem dX3_greatestWith_101 : decode cX3_greatestWith 101 = .ok (.iload_n 3, 1) := dk_29 (dk_at dksX3_greatestWith_4 8 rfl rfl)
theorem dX3_greatestWith_102 : decode cX3_greatestWith 102 = .ok (.if_icmp .le 11, 3) := dk_164 0 11 (dk_at dksX3_greatestWith_4 9 rfl rfl)
theorem dX3_greatestWith_105 : decode cX3_greatestWith 105 = .ok (.iload 5, 2) := dk_21 5 (dk_at dksX3_greatestWith_4 12 rfl rfl)
theorem dX3_greatestWith_107 : decode cX3_greatestWith 107 = .ok (.invokestatic 67, 3) := dk_184 0 67 (dk_at dksX3_greatestWith_4 14 rfl rfl)
theorem dX3_greatestWith_110 : decode cX3_greatestWith 110 = .ok (.goto 4, 3) := dk_167 0 4 (dk_at dksX3_greatestWith_4 17 rfl rfl)
theorem dX3_greatestWith_113 : decode cX3_greatestWith 113 = .ok (.iload_n 3, 1) := dk_29 (dk_at dksX3_greatestWith_4 20 rfl rfl)
theorem dX3_greatestWith_114 : decode cX3_greatestWith 114 = .ok (.istore_n 3, 1) := dk_62 (dk_at dksX3_greatestWith_4 21 rfl rfl)
theorem dX3_greatestWith_115 : decode cX3_greatestWith 115 = .ok (.iinc 4 1, 3) := dk_132 4 1 (dk_at dksX3_greatestWith_5 0 rfl rfl)
theorem dX3_greatestWith_118 : decode cX3_greatestWith 118 = .ok (.goto (-113), 3) := dk_167 255 143 (dk_at dksX3_greatestWith_5 3 rfl rfl)
theorem dX3_greatestWith_121 : decode cX3_greatestWith 121 = .ok (.iload_n 3, 1) := dk_29 (dk_at dksX3_greatestWith_5 6 rfl rfl)
theorem dX3_greatestWith_122 : decode cX3_greatestWith 122 = .ok (.ireturn, 1) := dk_172 (dk_at dksX3_greatestWith_5 7 rfl rfl)
abbrev cX3_bestDrawer : ByteArray := prog_8_method_60_code
def yX3_bestDrawer : MethodName := ⟨RX3, "bestDrawer", "(I)I"⟩
def dkwX3_bestDrawer_1 : List UInt8 := [4, 182, 0, 121, 172]
abbrev dktX3_bestDrawer_1 : List UInt8 := dkwX3_bestDrawer_1 ++ []
def dkwX3_bestDrawer_0 : List UInt8 := [42, 3, 181, 0, 38, 27, 4, 16, 20, 184, 0, 42, 153, 0, 11, 42, 27, 182, 0, 183, 167, 0, 8, 42]
abbrev dktX3_bestDrawer_0 : List UInt8 := dkwX3_bestDrawer_0 ++ dktX3_bestDrawer_1
theorem dksX3_bestDrawer_0 : cX3_bestDrawer.data.toList.drop 0 = dktX3_bestDrawer_0 := by decide +kernel
theorem dksX3_bestDrawer_1 : cX3_bestDrawer.data.toList.drop 24 = dktX3_bestDrawer_1 := dk_seg dksX3_bestDrawer_0 24 rfl rfl
theorem dX3_bestDrawer_0 : decode cX3_bestDrawer 0 = .ok (.aload_n 0, 1) := dk_42 (dk_at dksX3_bestDrawer_0 0 rfl rfl)
theorem dX3_bestDrawer_1 : decode cX3_bestDrawer 1 = .ok (.iconst 0, 1) := dk_3 (dk_at dksX3_bestDrawer_0 1 rfl rfl)
theorem dX3_bestDrawer_2 : decode cX3_bestDrawer 2 = .ok (.putfield 38, 3) := dk_181 0 38 (dk_at dksX3_bestDrawer_0 2 rfl rfl)
theorem dX3_bestDrawer_5 : decode cX3_bestDrawer 5 = .ok (.iload_n 1, 1) := dk_27 (dk_at dksX3_bestDrawer_0 5 rfl rfl)
theorem dX3_bestDrawer_6 : decode cX3_bestDrawer 6 = .ok (.iconst 1, 1) := dk_4 (dk_at dksX3_bestDrawer_0 6 rfl rfl)
theorem dX3_bestDrawer_7 : decode cX3_bestDrawer 7 = .ok (.bipush 20, 2) := dk_16 20 (dk_at dksX3_bestDrawer_0 7 rfl rfl)
theorem dX3_bestDrawer_9 : decode cX3_bestDrawer 9 = .ok (.invokestatic 42, 3) := dk_184 0 42 (dk_at dksX3_bestDrawer_0 9 rfl rfl)
theorem dX3_bestDrawer_12 : decode cX3_bestDrawer 12 = .ok (.ifCond .eq 11, 3) := dk_153 0 11 (dk_at dksX3_bestDrawer_0 12 rfl rfl)
theorem dX3_bestDrawer_15 : decode cX3_bestDrawer 15 = .ok (.aload_n 0, 1) := dk_42 (dk_at dksX3_bestDrawer_0 15 rfl rfl)
theorem dX3_bestDrawer_16 : decode cX3_bestDrawer 16 = .ok (.iload_n 1, 1) := dk_27 (dk_at dksX3_bestDrawer_0 16 rfl rfl)
theorem dX3_bestDrawer_17 : decode cX3_bestDrawer 17 = .ok (.invokevirtual 183, 3) := dk_182 0 183 (dk_at dksX3_bestDrawer_0 17 rfl rfl)
theorem dX3_bestDrawer_20 : decode cX3_bestDrawer 20 = .ok (.goto 8, 3) := dk_167 0 8 (dk_at dksX3_bestDrawer_0 20 rfl rfl)
theorem dX3_bestDrawer_23 : decode cX3_bestDrawer 23 = .ok (.aload_n 0, 1) := dk_42 (dk_at dksX3_bestDrawer_0 23 rfl rfl)
theorem dX3_bestDrawer_24 : decode cX3_bestDrawer 24 = .ok (.iconst 1, 1) := dk_4 (dk_at dksX3_bestDrawer_1 0 rfl rfl)
theorem dX3_bestDrawer_25 : decode cX3_bestDrawer 25 = .ok (.invokevirtual 121, 3) := dk_182 0 121 (dk_at dksX3_bestDrawer_1 1 rfl rfl)
theorem dX3_bestDrawer_28 : decode cX3_bestDrawer 28 = .ok (.ireturn, 1) := dk_172 (dk_at dksX3_bestDrawer_1 4 rfl rfl)
abbrev cX3_drawerFor : ByteArray := prog_8_method_59_code
def yX3_drawerFor : MethodName := ⟨RX3, "drawerFor", "(I)I"⟩
def dkwX3_drawerFor_4 : List UInt8 := [21, 4, 61, 21, 5, 62, 132, 4, 1, 167, 255, 158, 28, 172]
abbrev dktX3_drawerFor_4 : List UInt8 := dkwX3_drawerFor_4 ++ []
def dkwX3_drawerFor_3 : List UInt8 := [29, 161, 0, 23, 21, 5, 29, 160, 0, 23, 42, 21, 4, 182, 0, 124, 42, 28, 182, 0, 124, 162, 0, 9]
abbrev dktX3_drawerFor_3 : List UInt8 := dkwX3_drawerFor_3 ++ dktX3_drawerFor_4
def dkwX3_drawerFor_2 : List UInt8 := [4, 46, 163, 0, 7, 4, 167, 0, 4, 3, 54, 6, 21, 6, 153, 0, 40, 28, 2, 159, 0, 29, 21, 5]
abbrev dktX3_drawerFor_2 : List UInt8 := dkwX3_drawerFor_2 ++ dktX3_drawerFor_3
def dkwX3_drawerFor_1 : List UInt8 := [180, 0, 7, 16, 10, 21, 4, 96, 46, 154, 0, 24, 42, 21, 4, 182, 0, 124, 27, 96, 42, 180, 0, 7]
abbrev dktX3_drawerFor_1 : List UInt8 := dkwX3_drawerFor_1 ++ dktX3_drawerFor_2
def dkwX3_drawerFor_0 : List UInt8 := [2, 61, 3, 62, 3, 54, 4, 21, 4, 16, 12, 162, 0, 97, 42, 21, 4, 27, 182, 0, 180, 54, 5, 42]
abbrev dktX3_drawerFor_0 : List UInt8 := dkwX3_drawerFor_0 ++ dktX3_drawerFor_1
theorem dksX3_drawerFor_0 : cX3_drawerFor.data.toList.drop 0 = dktX3_drawerFor_0 := by decide +kernel
theorem dksX3_drawerFor_1 : cX3_drawerFor.data.toList.drop 24 = dktX3_drawerFor_1 := dk_seg dksX3_drawerFor_0 24 rfl rfl
theorem dksX3_drawerFor_2 : cX3_drawerFor.data.toList.drop 48 = dktX3_drawerFor_2 := dk_seg dksX3_drawerFor_1 24 rfl rfl
theorem dksX3_drawerFor_3 : cX3_drawerFor.data.toList.drop 72 = dktX3_drawerFor_3 := dk_seg dksX3_drawerFor_2 24 rfl rfl
theorem dksX3_drawerFor_4 : cX3_drawerFor.data.toList.drop 96 = dktX3_drawerFor_4 := dk_seg dksX3_drawerFor_3 24 rfl rfl
theorem dX3_drawerFor_0 : decode cX3_drawerFor 0 = .ok (.iconst (-1), 1) := dk_2 (dk_at dksX3_drawerFor_0 0 rfl rfl)
theorem dX3_drawerFor_1 : decode cX3_drawerFor 1 = .ok (.istore_n 2, 1) := dk_61 (dk_at dksX3_drawerFor_0 1 rfl rfl)
theorem dX3_drawerFor_2 : decode cX3_drawerFor 2 = .ok (.iconst 0, 1) := dk_3 (dk_at dksX3_drawerFor_0 2 rfl rfl)
theorem dX3_drawerFor_3 : decode cX3_drawerFor 3 = .ok (.istore_n 3, 1) := dk_62 (dk_at dksX3_drawerFor_0 3 rfl rfl)
theorem dX3_drawerFor_4 : decode cX3_drawerFor 4 = .ok (.iconst 0, 1) := dk_3 (dk_at dksX3_drawerFor_0 4 rfl rfl)
theorem dX3_drawerFor_5 : decode cX3_drawerFor 5 = .ok (.istore 4, 2) := dk_54 4 (dk_at dksX3_drawerFor_0 5 rfl rfl)
theorem dX3_drawerFor_7 : decode cX3_drawerFor 7 = .ok (.iload 4, 2) := dk_21 4 (dk_at dksX3_drawerFor_0 7 rfl rfl)
theorem dX3_drawerFor_9 : decode cX3_drawerFor 9 = .ok (.bipush 12, 2) := dk_16 12 (dk_at dksX3_drawerFor_0 9 rfl rfl)
theorem dX3_drawerFor_11 : decode cX3_drawerFor 11 = .ok (.if_icmp .ge 97, 3) := dk_162 0 97 (dk_at dksX3_drawerFor_0 11 rfl rfl)
theorem dX3_drawerFor_14 : decode cX3_drawerFor 14 = .ok (.aload_n 0, 1) := dk_42 (dk_at dksX3_drawerFor_0 14 rfl rfl)
theorem dX3_drawerFor_15 : decode cX3_drawerFor 15 = .ok (.iload 4, 2) := dk_21 4 (dk_at dksX3_drawerFor_0 15 rfl rfl)
theorem dX3_drawerFor_17 : decode cX3_drawerFor 17 = .ok (.iload_n 1, 1) := dk_27 (dk_at dksX3_drawerFor_0 17 rfl rfl)
theorem dX3_drawerFor_18 : decode cX3_drawerFor 18 = .ok (.invokevirtual 180, 3) := dk_182 0 180 (dk_at dksX3_drawerFor_0 18 rfl rfl)
theorem dX3_drawerFor_21 : decode cX3_drawerFor 21 = .ok (.istore 5, 2) := dk_54 5 (dk_at dksX3_drawerFor_0 21 rfl rfl)
theorem dX3_drawerFor_23 : decode cX3_drawerFor 23 = .ok (.aload_n 0, 1) := dk_42 (dk_at dksX3_drawerFor_0 23 rfl rfl)
theorem dX3_drawerFor_24 : decode cX3_drawerFor 24 = .ok (.getfield 7, 3) := dk_180 0 7 (dk_at dksX3_drawerFor_1 0 rfl rfl)
theorem dX3_drawerFor_27 : decode cX3_drawerFor 27 = .ok (.bipush 10, 2) := dk_16 10 (dk_at dksX3_drawerFor_1 3 rfl rfl)
theorem dX3_drawerFor_29 : decode cX3_drawerFor 29 = .ok (.iload 4, 2) := dk_21 4 (dk_at dksX3_drawerFor_1 5 rfl rfl)
theorem dX3_drawerFor_31 : decode cX3_drawerFor 31 = .ok (.iadd, 1) := dk_96 (dk_at dksX3_drawerFor_1 7 rfl rfl)
theorem dX3_drawerFor_32 : decode cX3_drawerFor 32 = .ok (.iaload, 1) := dk_46 (dk_at dksX3_drawerFor_1 8 rfl rfl)
theorem dX3_drawerFor_33 : decode cX3_drawerFor 33 = .ok (.ifCond .ne 24, 3) := dk_154 0 24 (dk_at dksX3_drawerFor_1 9 rfl rfl)
theorem dX3_drawerFor_36 : decode cX3_drawerFor 36 = .ok (.aload_n 0, 1) := dk_42 (dk_at dksX3_drawerFor_1 12 rfl rfl)
theorem dX3_drawerFor_37 : decode cX3_drawerFor 37 = .ok (.iload 4, 2) := dk_21 4 (dk_at dksX3_drawerFor_1 13 rfl rfl)
theorem dX3_drawerFor_39 : decode cX3_drawerFor 39 = .ok (.invokevirtual 124, 3) := dk_182 0 124 (dk_at dksX3_drawerFor_1 15 rfl rfl)
theorem dX3_drawerFor_42 : decode cX3_drawerFor 42 = .ok (.iload_n 1, 1) := dk_27 (dk_at dksX3_drawerFor_1 18 rfl rfl)
theorem dX3_drawerFor_43 : decode cX3_drawerFor 43 = .ok (.iadd, 1) := dk_96 (dk_at dksX3_drawerFor_1 19 rfl rfl)
theorem dX3_drawerFor_44 : decode cX3_drawerFor 44 = .ok (.aload_n 0, 1) := dk_42 (dk_at dksX3_drawerFor_1 20 rfl rfl)
theorem dX3_drawerFor_45 : decode cX3_drawerFor 45 = .ok (.getfield 7, 3) := dk_180 0 7 (dk_at dksX3_drawerFor_1 21 rfl rfl)
theorem dX3_drawerFor_48 : decode cX3_drawerFor 48 = .ok (.iconst 1, 1) := dk_4 (dk_at dksX3_drawerFor_2 0 rfl rfl)
theorem dX3_drawerFor_49 : decode cX3_drawerFor 49 = .ok (.iaload, 1) := dk_46 (dk_at dksX3_drawerFor_2 1 rfl rfl)
theorem dX3_drawerFor_50 : decode cX3_drawerFor 50 = .ok (.if_icmp .gt 7, 3) := dk_163 0 7 (dk_at dksX3_drawerFor_2 2 rfl rfl)
theorem dX3_drawerFor_53 : decode cX3_drawerFor 53 = .ok (.iconst 1, 1) := dk_4 (dk_at dksX3_drawerFor_2 5 rfl rfl)
theorem dX3_drawerFor_54 : decode cX3_drawerFor 54 = .ok (.goto 4, 3) := dk_167 0 4 (dk_at dksX3_drawerFor_2 6 rfl rfl)
theorem dX3_drawerFor_57 : decode cX3_drawerFor 57 = .ok (.iconst 0, 1) := dk_3 (dk_at dksX3_drawerFor_2 9 rfl rfl)
theorem dX3_drawerFor_58 : decode cX3_drawerFor 58 = .ok (.istore 6, 2) := dk_54 6 (dk_at dksX3_drawerFor_2 10 rfl rfl)
theorem dX3_drawerFor_60 : decode cX3_drawerFor 60 = .ok (.iload 6, 2) := dk_21 6 (dk_at dksX3_drawerFor_2 12 rfl rfl)
theorem dX3_drawerFor_62 : decode cX3_drawerFor 62 = .ok (.ifCond .eq 40, 3) := dk_153 0 40 (dk_at dksX3_drawerFor_2 14 rfl rfl)
theorem dX3_drawerFor_65 : decode cX3_drawerFor 65 = .ok (.iload_n 2, 1) := dk_28 (dk_at dksX3_drawerFor_2 17 rfl rfl)
theorem dX3_drawerFor_66 : decode cX3_drawerFor 66 = .ok (.iconst (-1), 1) := dk_2 (dk_at dksX3_drawerFor_2 18 rfl rfl)
theorem dX3_drawerFor_67 : decode cX3_drawerFor 67 = .ok (.if_icmp .eq 29, 3) := dk_159 0 29 (dk_at dksX3_drawerFor_2 19 rfl rfl)
theorem dX3_drawerFor_70 : decode cX3_drawerFor 70 = .ok (.iload 5, 2) := dk_21 5 (dk_at dksX3_drawerFor_2 22 rfl rfl)
theorem dX3_drawerFor_72 : decode cX3_drawerFor 72 = .ok (.iload_n 3, 1) := dk_29 (dk_at dksX3_drawerFor_3 0 rfl rfl)
theorem dX3_drawerFor_73 : decode cX3_drawerFor 73 = .ok (.if_icmp .lt 23, 3) := dk_161 0 23 (dk_at dksX3_drawerFor_3 1 rfl rfl)
theorem dX3_drawerFor_76 : decode cX3_drawerFor 76 = .ok (.iload 5, 2) := dk_21 5 (dk_at dksX3_drawerFor_3 4 rfl rfl)
theorem dX3_drawerFor_78 : decode cX3_drawerFor 78 = .ok (.iload_n 3, 1) := dk_29 (dk_at dksX3_drawerFor_3 6 rfl rfl)
theorem dX3_drawerFor_79 : decode cX3_drawerFor 79 = .ok (.if_icmp .ne 23, 3) := dk_160 0 23 (dk_at dksX3_drawerFor_3 7 rfl rfl)
theorem dX3_drawerFor_82 : decode cX3_drawerFor 82 = .ok (.aload_n 0, 1) := dk_42 (dk_at dksX3_drawerFor_3 10 rfl rfl)
theorem dX3_drawerFor_83 : decode cX3_drawerFor 83 = .ok (.iload 4, 2) := dk_21 4 (dk_at dksX3_drawerFor_3 11 rfl rfl)
theorem dX3_drawerFor_85 : decode cX3_drawerFor 85 = .ok (.invokevirtual 124, 3) := dk_182 0 124 (dk_at dksX3_drawerFor_3 13 rfl rfl)
theorem dX3_drawerFor_88 : decode cX3_drawerFor 88 = .ok (.aload_n 0, 1) := dk_42 (dk_at dksX3_drawerFor_3 16 rfl rfl)
theorem dX3_drawerFor_89 : decode cX3_drawerFor 89 = .ok (.iload_n 2, 1) := dk_28 (dk_at dksX3_drawerFor_3 17 rfl rfl)
theorem dX3_drawerFor_90 : decode cX3_drawerFor 90 = .ok (.invokevirtual 124, 3) := dk_182 0 124 (dk_at dksX3_drawerFor_3 18 rfl rfl)
theorem dX3_drawerFor_93 : decode cX3_drawerFor 93 = .ok (.if_icmp .ge 9, 3) := dk_162 0 9 (dk_at dksX3_drawerFor_3 21 rfl rfl)
theorem dX3_drawerFor_96 : decode cX3_drawerFor 96 = .ok (.iload 4, 2) := dk_21 4 (dk_at dksX3_drawerFor_4 0 rfl rfl)
theorem dX3_drawerFor_98 : decode cX3_drawerFor 98 = .ok (.istore_n 2, 1) := dk_61 (dk_at dksX3_drawerFor_4 2 rfl rfl)
theorem dX3_drawerFor_99 : decode cX3_drawerFor 99 = .ok (.iload 5, 2) := dk_21 5 (dk_at dksX3_drawerFor_4 3 rfl rfl)
theorem dX3_drawerFor_101 : decode cX3_drawerFor 101 = .ok (.istore_n 3, 1) := dk_62 (dk_at dksX3_drawerFor_4 5 rfl rfl)
theorem dX3_drawerFor_102 : decode cX3_drawerFor 102 = .ok (.iinc 4 1, 3) := dk_132 4 1 (dk_at dksX3_drawerFor_4 6 rfl rfl)
theorem dX3_drawerFor_105 : decode cX3_drawerFor 105 = .ok (.goto (-98), 3) := dk_167 255 158 (dk_at dksX3_drawerFor_4 9 rfl rfl)
theorem dX3_drawerFor_108 : decode cX3_drawerFor 108 = .ok (.iload_n 2, 1) := dk_28 (dk_at dksX3_drawerFor_4 12 rfl rfl)
theorem dX3_drawerFor_109 : decode cX3_drawerFor 109 = .ok (.ireturn, 1) := dk_172 (dk_at dksX3_drawerFor_4 13 rfl rfl)
abbrev cX3_ifPicked : ByteArray := prog_8_method_62_code
def yX3_ifPicked : MethodName := ⟨RX3, "ifPicked", "(II)I"⟩
def dkwX3_ifPicked_1 : List UInt8 := [27, 28, 182, 0, 186, 167, 0, 8, 42, 4, 182, 0, 121, 172]
abbrev dktX3_ifPicked_1 : List UInt8 := dkwX3_ifPicked_1 ++ []
def dkwX3_ifPicked_0 : List UInt8 := [42, 3, 181, 0, 38, 27, 3, 5, 184, 0, 42, 153, 0, 21, 28, 3, 6, 184, 0, 42, 153, 0, 12, 42]
abbrev dktX3_ifPicked_0 : List UInt8 := dkwX3_ifPicked_0 ++ dktX3_ifPicked_1
theorem dksX3_ifPicked_0 : cX3_ifPicked.data.toList.drop 0 = dktX3_ifPicked_0 := by decide +kernel
theorem dksX3_ifPicked_1 : cX3_ifPicked.data.toList.drop 24 = dktX3_ifPicked_1 := dk_seg dksX3_ifPicked_0 24 rfl rfl
theorem dX3_ifPicked_0 : decode cX3_ifPicked 0 = .ok (.aload_n 0, 1) := dk_42 (dk_at dksX3_ifPicked_0 0 rfl rfl)
theorem dX3_ifPicked_1 : decode cX3_ifPicked 1 = .ok (.iconst 0, 1) := dk_3 (dk_at dksX3_ifPicked_0 1 rfl rfl)
theorem dX3_ifPicked_2 : decode cX3_ifPicked 2 = .ok (.putfield 38, 3) := dk_181 0 38 (dk_at dksX3_ifPicked_0 2 rfl rfl)
theorem dX3_ifPicked_5 : decode cX3_ifPicked 5 = .ok (.iload_n 1, 1) := dk_27 (dk_at dksX3_ifPicked_0 5 rfl rfl)
theorem dX3_ifPicked_6 : decode cX3_ifPicked 6 = .ok (.iconst 0, 1) := dk_3 (dk_at dksX3_ifPicked_0 6 rfl rfl)
theorem dX3_ifPicked_7 : decode cX3_ifPicked 7 = .ok (.iconst 2, 1) := dk_5 (dk_at dksX3_ifPicked_0 7 rfl rfl)
theorem dX3_ifPicked_8 : decode cX3_ifPicked 8 = .ok (.invokestatic 42, 3) := dk_184 0 42 (dk_at dksX3_ifPicked_0 8 rfl rfl)
theorem dX3_ifPicked_11 : decode cX3_ifPicked 11 = .ok (.ifCond .eq 21, 3) := dk_153 0 21 (dk_at dksX3_ifPicked_0 11 rfl rfl)
theorem dX3_ifPicked_14 : decode cX3_ifPicked 14 = .ok (.iload_n 2, 1) := dk_28 (dk_at dksX3_ifPicked_0 14 rfl rfl)
theorem dX3_ifPicked_15 : decode cX3_ifPicked 15 = .ok (.iconst 0, 1) := dk_3 (dk_at dksX3_ifPicked_0 15 rfl rfl)
theorem dX3_ifPicked_16 : decode cX3_ifPicked 16 = .ok (.iconst 3, 1) := dk_6 (dk_at dksX3_ifPicked_0 16 rfl rfl)
theorem dX3_ifPicked_17 : decode cX3_ifPicked 17 = .ok (.invokestatic 42, 3) := dk_184 0 42 (dk_at dksX3_ifPicked_0 17 rfl rfl)
theorem dX3_ifPicked_20 : decode cX3_ifPicked 20 = .ok (.ifCond .eq 12, 3) := dk_153 0 12 (dk_at dksX3_ifPicked_0 20 rfl rfl)
theorem dX3_ifPicked_23 : decode cX3_ifPicked 23 = .ok (.aload_n 0, 1) := dk_42 (dk_at dksX3_ifPicked_0 23 rfl rfl)
theorem dX3_ifPicked_24 : decode cX3_ifPicked 24 = .ok (.iload_n 1, 1) := dk_27 (dk_at dksX3_ifPicked_1 0 rfl rfl)
theorem dX3_ifPicked_25 : decode cX3_ifPicked 25 = .ok (.iload_n 2, 1) := dk_28 (dk_at dksX3_ifPicked_1 1 rfl rfl)
theorem dX3_ifPicked_26 : decode cX3_ifPicked 26 = .ok (.invokevirtual 186, 3) := dk_182 0 186 (dk_at dksX3_ifPicked_1 2 rfl rfl)
theorem dX3_ifPicked_29 : decode cX3_ifPicked 29 = .ok (.goto 8, 3) := dk_167 0 8 (dk_at dksX3_ifPicked_1 5 rfl rfl)
theorem dX3_ifPicked_32 : decode cX3_ifPicked 32 = .ok (.aload_n 0, 1) := dk_42 (dk_at dksX3_ifPicked_1 8 rfl rfl)
theorem dX3_ifPicked_33 : decode cX3_ifPicked 33 = .ok (.iconst 1, 1) := dk_4 (dk_at dksX3_ifPicked_1 9 rfl rfl)
theorem dX3_ifPicked_34 : decode cX3_ifPicked 34 = .ok (.invokevirtual 121, 3) := dk_182 0 121 (dk_at dksX3_ifPicked_1 10 rfl rfl)
theorem dX3_ifPicked_37 : decode cX3_ifPicked 37 = .ok (.ireturn, 1) := dk_172 (dk_at dksX3_ifPicked_1 13 rfl rfl)
abbrev cX3_picked : ByteArray := prog_8_method_61_code
def yX3_picked : MethodName := ⟨RX3, "picked", "(II)I"⟩
def dkwX3_picked_5 : List UInt8 := [79, 132, 5, 1, 167, 255, 231, 21, 4, 172]
abbrev dktX3_picked_5 : List UInt8 := dkwX3_picked_5 ++ []
def dkwX3_picked_4 : List UInt8 := [3, 54, 5, 21, 5, 17, 0, 142, 162, 0, 23, 42, 180, 0, 7, 21, 5, 42, 180, 0, 13, 21, 5, 46]
abbrev dktX3_picked_4 : List UInt8 := dkwX3_picked_4 ++ dktX3_picked_5
def dkwX3_picked_3 : List UInt8 := [100, 167, 0, 21, 28, 5, 160, 0, 12, 42, 180, 0, 7, 6, 46, 167, 0, 7, 42, 182, 0, 171, 54, 4]
abbrev dktX3_picked_3 : List UInt8 := dkwX3_picked_3 ++ dktX3_picked_4
def dkwX3_picked_2 : List UInt8 := [154, 0, 7, 29, 167, 0, 42, 28, 4, 160, 0, 19, 42, 180, 0, 7, 7, 46, 42, 180, 0, 13, 7, 46]
abbrev dktX3_picked_2 : List UInt8 := dkwX3_picked_2 ++ dktX3_picked_3
def dkwX3_picked_1 : List UInt8 := [180, 0, 13, 29, 42, 180, 0, 7, 29, 46, 79, 132, 3, 1, 167, 255, 234, 42, 27, 182, 0, 159, 62, 28]
abbrev dktX3_picked_1 : List UInt8 := dkwX3_picked_1 ++ dktX3_picked_2
def dkwX3_picked_0 : List UInt8 := [42, 182, 0, 156, 42, 180, 0, 146, 154, 0, 5, 2, 172, 3, 62, 29, 17, 0, 142, 162, 0, 21, 42]
abbrev dktX3_picked_0 : List UInt8 := dkwX3_picked_0 ++ dktX3_picked_1
theorem dksX3_picked_0 : cX3_picked.data.toList.drop 0 = dktX3_picked_0 := by decide +kernel
theorem dksX3_picked_1 : cX3_picked.data.toList.drop 23 = dktX3_picked_1 := dk_seg dksX3_picked_0 23 rfl rfl
theorem dksX3_picked_2 : cX3_picked.data.toList.drop 47 = dktX3_picked_2 := dk_seg dksX3_picked_1 24 rfl rfl
theorem dksX3_picked_3 : cX3_picked.data.toList.drop 71 = dktX3_picked_3 := dk_seg dksX3_picked_2 24 rfl rfl
theorem dksX3_picked_4 : cX3_picked.data.toList.drop 95 = dktX3_picked_4 := dk_seg dksX3_picked_3 24 rfl rfl
theorem dksX3_picked_5 : cX3_picked.data.toList.drop 119 = dktX3_picked_5 := dk_seg dksX3_picked_4 24 rfl rfl
theorem dX3_picked_0 : decode cX3_picked 0 = .ok (.aload_n 0, 1) := dk_42 (dk_at dksX3_picked_0 0 rfl rfl)
theorem dX3_picked_1 : decode cX3_picked 1 = .ok (.invokevirtual 156, 3) := dk_182 0 156 (dk_at dksX3_picked_0 1 rfl rfl)
theorem dX3_picked_4 : decode cX3_picked 4 = .ok (.aload_n 0, 1) := dk_42 (dk_at dksX3_picked_0 4 rfl rfl)
theorem dX3_picked_5 : decode cX3_picked 5 = .ok (.getfield 146, 3) := dk_180 0 146 (dk_at dksX3_picked_0 5 rfl rfl)
theorem dX3_picked_8 : decode cX3_picked 8 = .ok (.ifCond .ne 5, 3) := dk_154 0 5 (dk_at dksX3_picked_0 8 rfl rfl)
theorem dX3_picked_11 : decode cX3_picked 11 = .ok (.iconst (-1), 1) := dk_2 (dk_at dksX3_picked_0 11 rfl rfl)
theorem dX3_picked_12 : decode cX3_picked 12 = .ok (.ireturn, 1) := dk_172 (dk_at dksX3_picked_0 12 rfl rfl)
theorem dX3_picked_13 : decode cX3_picked 13 = .ok (.iconst 0, 1) := dk_3 (dk_at dksX3_picked_0 13 rfl rfl)
theorem dX3_picked_14 : decode cX3_picked 14 = .ok (.istore_n 3, 1) := dk_62 (dk_at dksX3_picked_0 14 rfl rfl)
theorem dX3_picked_15 : decode cX3_picked 15 = .ok (.iload_n 3, 1) := dk_29 (dk_at dksX3_picked_0 15 rfl rfl)
theorem dX3_picked_16 : decode cX3_picked 16 = .ok (.sipush 142, 3) := dk_17 0 142 (dk_at dksX3_picked_0 16 rfl rfl)
theorem dX3_picked_19 : decode cX3_picked 19 = .ok (.if_icmp .ge 21, 3) := dk_162 0 21 (dk_at dksX3_picked_0 19 rfl rfl)
theorem dX3_picked_22 : decode cX3_picked 22 = .ok (.aload_n 0, 1) := dk_42 (dk_at dksX3_picked_0 22 rfl rfl)
theorem dX3_picked_23 : decode cX3_picked 23 = .ok (.getfield 13, 3) := dk_180 0 13 (dk_at dksX3_picked_1 0 rfl rfl)
theorem dX3_picked_26 : decode cX3_picked 26 = .ok (.iload_n 3, 1) := dk_29 (dk_at dksX3_picked_1 3 rfl rfl)
theorem dX3_picked_27 : decode cX3_picked 27 = .ok (.aload_n 0, 1) := dk_42 (dk_at dksX3_picked_1 4 rfl rfl)
theorem dX3_picked_28 : decode cX3_picked 28 = .ok (.getfield 7, 3) := dk_180 0 7 (dk_at dksX3_picked_1 5 rfl rfl)
theorem dX3_picked_31 : decode cX3_picked 31 = .ok (.iload_n 3, 1) := dk_29 (dk_at dksX3_picked_1 8 rfl rfl)
theorem dX3_picked_32 : decode cX3_picked 32 = .ok (.iaload, 1) := dk_46 (dk_at dksX3_picked_1 9 rfl rfl)
theorem dX3_picked_33 : decode cX3_picked 33 = .ok (.iastore, 1) := dk_79 (dk_at dksX3_picked_1 10 rfl rfl)
theorem dX3_picked_34 : decode cX3_picked 34 = .ok (.iinc 3 1, 3) := dk_132 3 1 (dk_at dksX3_picked_1 11 rfl rfl)
theorem dX3_picked_37 : decode cX3_picked 37 = .ok (.goto (-22), 3) := dk_167 255 234 (dk_at dksX3_picked_1 14 rfl rfl)
theorem dX3_picked_40 : decode cX3_picked 40 = .ok (.aload_n 0, 1) := dk_42 (dk_at dksX3_picked_1 17 rfl rfl)
theorem dX3_picked_41 : decode cX3_picked 41 = .ok (.iload_n 1, 1) := dk_27 (dk_at dksX3_picked_1 18 rfl rfl)
theorem dX3_picked_42 : decode cX3_picked 42 = .ok (.invokevirtual 159, 3) := dk_182 0 159 (dk_at dksX3_picked_1 19 rfl rfl)
theorem dX3_picked_45 : decode cX3_picked 45 = .ok (.istore_n 3, 1) := dk_62 (dk_at dksX3_picked_1 22 rfl rfl)
theorem dX3_picked_46 : decode cX3_picked 46 = .ok (.iload_n 2, 1) := dk_28 (dk_at dksX3_picked_1 23 rfl rfl)
theorem dX3_picked_47 : decode cX3_picked 47 = .ok (.ifCond .ne 7, 3) := dk_154 0 7 (dk_at dksX3_picked_2 0 rfl rfl)
theorem dX3_picked_50 : decode cX3_picked 50 = .ok (.iload_n 3, 1) := dk_29 (dk_at dksX3_picked_2 3 rfl rfl)
theorem dX3_picked_51 : decode cX3_picked 51 = .ok (.goto 42, 3) := dk_167 0 42 (dk_at dksX3_picked_2 4 rfl rfl)
theorem dX3_picked_54 : decode cX3_picked 54 = .ok (.iload_n 2, 1) := dk_28 (dk_at dksX3_picked_2 7 rfl rfl)
theorem dX3_picked_55 : decode cX3_picked 55 = .ok (.iconst 1, 1) := dk_4 (dk_at dksX3_picked_2 8 rfl rfl)
theorem dX3_picked_56 : decode cX3_picked 56 = .ok (.if_icmp .ne 19, 3) := dk_160 0 19 (dk_at dksX3_picked_2 9 rfl rfl)
theorem dX3_picked_59 : decode cX3_picked 59 = .ok (.aload_n 0, 1) := dk_42 (dk_at dksX3_picked_2 12 rfl rfl)
theorem dX3_picked_60 : decode cX3_picked 60 = .ok (.getfield 7, 3) := dk_180 0 7 (dk_at dksX3_picked_2 13 rfl rfl)
theorem dX3_picked_63 : decode cX3_picked 63 = .ok (.iconst 4, 1) := dk_7 (dk_at dksX3_picked_2 16 rfl rfl)
theorem dX3_picked_64 : decode cX3_picked 64 = .ok (.iaload, 1) := dk_46 (dk_at dksX3_picked_2 17 rfl rfl)
theorem dX3_picked_65 : decode cX3_picked 65 = .ok (.aload_n 0, 1) := dk_42 (dk_at dksX3_picked_2 18 rfl rfl)
theorem dX3_picked_66 : decode cX3_picked 66 = .ok (.getfield 13, 3) := dk_180 0 13 (dk_at dksX3_picked_2 19 rfl rfl)
theorem dX3_picked_69 : decode cX3_picked 69 = .ok (.iconst 4, 1) := dk_7 (dk_at dksX3_picked_2 22 rfl rfl)
theorem dX3_picked_70 : decode cX3_picked 70 = .ok (.iaload, 1) := dk_46 (dk_at dksX3_picked_2 23 rfl rfl)
theorem dX3_picked_71 : decode cX3_picked 71 = .ok (.isub, 1) := dk_100 (dk_at dksX3_picked_3 0 rfl rfl)
theorem dX3_picked_72 : decode cX3_picked 72 = .ok (.goto 21, 3) := dk_167 0 21 (dk_at dksX3_picked_3 1 rfl rfl)
theorem dX3_picked_75 : decode cX3_picked 75 = .ok (.iload_n 2, 1) := dk_28 (dk_at dksX3_picked_3 4 rfl rfl)
theorem dX3_picked_76 : decode cX3_picked 76 = .ok (.iconst 2, 1) := dk_5 (dk_at dksX3_picked_3 5 rfl rfl)
theorem dX3_picked_77 : decode cX3_picked 77 = .ok (.if_icmp .ne 12, 3) := dk_160 0 12 (dk_at dksX3_picked_3 6 rfl rfl)
theorem dX3_picked_80 : decode cX3_picked 80 = .ok (.aload_n 0, 1) := dk_42 (dk_at dksX3_picked_3 9 rfl rfl)
theorem dX3_picked_81 : decode cX3_picked 81 = .ok (.getfield 7, 3) := dk_180 0 7 (dk_at dksX3_picked_3 10 rfl rfl)
theorem dX3_picked_84 : decode cX3_picked 84 = .ok (.iconst 3, 1) := dk_6 (dk_at dksX3_picked_3 13 rfl rfl)
theorem dX3_picked_85 : decode cX3_picked 85 = .ok (.iaload, 1) := dk_46 (dk_at dksX3_picked_3 14 rfl rfl)
theorem dX3_picked_86 : decode cX3_picked 86 = .ok (.goto 7, 3) := dk_167 0 7 (dk_at dksX3_picked_3 15 rfl rfl)
theorem dX3_picked_89 : decode cX3_picked 89 = .ok (.aload_n 0, 1) := dk_42 (dk_at dksX3_picked_3 18 rfl rfl)
theorem dX3_picked_90 : decode cX3_picked 90 = .ok (.invokevirtual 171, 3) := dk_182 0 171 (dk_at dksX3_picked_3 19 rfl rfl)
theorem dX3_picked_93 : decode cX3_picked 93 = .ok (.istore 4, 2) := dk_54 4 (dk_at dksX3_picked_3 22 rfl rfl)
theorem dX3_picked_95 : decode cX3_picked 95 = .ok (.iconst 0, 1) := dk_3 (dk_at dksX3_picked_4 0 rfl rfl)
theorem dX3_picked_96 : decode cX3_picked 96 = .ok (.istore 5, 2) := dk_54 5 (dk_at dksX3_picked_4 1 rfl rfl)
theorem dX3_picked_98 : decode cX3_picked 98 = .ok (.iload 5, 2) := dk_21 5 (dk_at dksX3_picked_4 3 rfl rfl)
theorem dX3_picked_100 : decode cX3_picked 100 = .ok (.sipush 142, 3) := dk_17 0 142 (dk_at dksX3_picked_4 5 rfl rfl)
theorem dX3_picked_103 : decode cX3_picked 103 = .ok (.if_icmp .ge 23, 3) := dk_162 0 23 (dk_at dksX3_picked_4 8 rfl rfl)
theorem dX3_picked_106 : decode cX3_picked 106 = .ok (.aload_n 0, 1) := dk_42 (dk_at dksX3_picked_4 11 rfl rfl)
theorem dX3_picked_107 : decode cX3_picked 107 = .ok (.getfield 7, 3) := dk_180 0 7 (dk_at dksX3_picked_4 12 rfl rfl)
theorem dX3_picked_110 : decode cX3_picked 110 = .ok (.iload 5, 2) := dk_21 5 (dk_at dksX3_picked_4 15 rfl rfl)
theorem dX3_picked_112 : decode cX3_picked 112 = .ok (.aload_n 0, 1) := dk_42 (dk_at dksX3_picked_4 17 rfl rfl)
theorem dX3_picked_113 : decode cX3_picked 113 = .ok (.getfield 13, 3) := dk_180 0 13 (dk_at dksX3_picked_4 18 rfl rfl)
theorem dX3_picked_116 : decode cX3_picked 116 = .ok (.iload 5, 2) := dk_21 5 (dk_at dksX3_picked_4 21 rfl rfl)
theorem dX3_picked_118 : decode cX3_picked 118 = .ok (.iaload, 1) := dk_46 (dk_at dksX3_picked_4 23 rfl rfl)
theorem dX3_picked_119 : decode cX3_picked 119 = .ok (.iastore, 1) := dk_79 (dk_at dksX3_picked_5 0 rfl rfl)
theorem dX3_picked_120 : decode cX3_picked 120 = .ok (.iinc 5 1, 3) := dk_132 5 1 (dk_at dksX3_picked_5 1 rfl rfl)
theorem dX3_picked_123 : decode cX3_picked 123 = .ok (.goto (-25), 3) := dk_167 255 231 (dk_at dksX3_picked_5 4 rfl rfl)
theorem dX3_picked_126 : decode cX3_picked 126 = .ok (.iload 4, 2) := dk_21 4 (dk_at dksX3_picked_5 7 rfl rfl)
theorem dX3_picked_128 : decode cX3_picked 128 = .ok (.ireturn, 1) := dk_172 (dk_at dksX3_picked_5 9 rfl rfl)
abbrev cX3_evenness : ByteArray := prog_8_method_64_code
def yX3_evenness : MethodName := ⟨RX3, "evenness", "()D"⟩
def dkwX3_evenness_0 : List UInt8 := [42, 3, 181, 0, 38, 42, 182, 0, 189, 175]
abbrev dktX3_evenness_0 : List UInt8 := dkwX3_evenness_0 ++ []
theorem dksX3_evenness_0 : cX3_evenness.data.toList.drop 0 = dktX3_evenness_0 := by decide +kernel
theorem dX3_evenness_0 : decode cX3_evenness 0 = .ok (.aload_n 0, 1) := dk_42 (dk_at dksX3_evenness_0 0 rfl rfl)
theorem dX3_evenness_1 : decode cX3_evenness 1 = .ok (.iconst 0, 1) := dk_3 (dk_at dksX3_evenness_0 1 rfl rfl)
theorem dX3_evenness_2 : decode cX3_evenness 2 = .ok (.putfield 38, 3) := dk_181 0 38 (dk_at dksX3_evenness_0 2 rfl rfl)
theorem dX3_evenness_5 : decode cX3_evenness 5 = .ok (.aload_n 0, 1) := dk_42 (dk_at dksX3_evenness_0 5 rfl rfl)
theorem dX3_evenness_6 : decode cX3_evenness 6 = .ok (.invokevirtual 189, 3) := dk_182 0 189 (dk_at dksX3_evenness_0 6 rfl rfl)
theorem dX3_evenness_9 : decode cX3_evenness 9 = .ok (.dreturn, 1) := dk_175 (dk_at dksX3_evenness_0 9 rfl rfl)
abbrev cX3_even : ByteArray := prog_8_method_63_code
def yX3_even : MethodName := ⟨RX3, "even", "()D"⟩
def dkwX3_even_2 : List UInt8 := [28, 135, 27, 135, 111, 175]
abbrev dktX3_even_2 : List UInt8 := dkwX3_even_2 ++ []
def dkwX3_even_1 : List UInt8 := [42, 29, 182, 0, 124, 167, 0, 4, 28, 61, 132, 3, 1, 167, 255, 228, 27, 154, 0, 7, 15, 167, 0, 8]
abbrev dktX3_even_1 : List UInt8 := dkwX3_even_1 ++ dktX3_even_2
def dkwX3_even_0 : List UInt8 := [42, 182, 0, 134, 60, 27, 61, 3, 62, 29, 16, 12, 162, 0, 28, 42, 29, 182, 0, 124, 28, 162, 0, 11]
abbrev dktX3_even_0 : List UInt8 := dkwX3_even_0 ++ dktX3_even_1
theorem dksX3_even_0 : cX3_even.data.toList.drop 0 = dktX3_even_0 := by decide +kernel
theorem dksX3_even_1 : cX3_even.data.toList.drop 24 = dktX3_even_1 := dk_seg dksX3_even_0 24 rfl rfl
theorem dksX3_even_2 : cX3_even.data.toList.drop 48 = dktX3_even_2 := dk_seg dksX3_even_1 24 rfl rfl
theorem dX3_even_0 : decode cX3_even 0 = .ok (.aload_n 0, 1) := dk_42 (dk_at dksX3_even_0 0 rfl rfl)
theorem dX3_even_1 : decode cX3_even 1 = .ok (.invokevirtual 134, 3) := dk_182 0 134 (dk_at dksX3_even_0 1 rfl rfl)
theorem dX3_even_4 : decode cX3_even 4 = .ok (.istore_n 1, 1) := dk_60 (dk_at dksX3_even_0 4 rfl rfl)
theorem dX3_even_5 : decode cX3_even 5 = .ok (.iload_n 1, 1) := dk_27 (dk_at dksX3_even_0 5 rfl rfl)
theorem dX3_even_6 : decode cX3_even 6 = .ok (.istore_n 2, 1) := dk_61 (dk_at dksX3_even_0 6 rfl rfl)
theorem dX3_even_7 : decode cX3_even 7 = .ok (.iconst 0, 1) := dk_3 (dk_at dksX3_even_0 7 rfl rfl)
theorem dX3_even_8 : decode cX3_even 8 = .ok (.istore_n 3, 1) := dk_62 (dk_at dksX3_even_0 8 rfl rfl)
theorem dX3_even_9 : decode cX3_even 9 = .ok (.iload_n 3, 1) := dk_29 (dk_at dksX3_even_0 9 rfl rfl)
theorem dX3_even_10 : decode cX3_even 10 = .ok (.bipush 12, 2) := dk_16 12 (dk_at dksX3_even_0 10 rfl rfl)
theorem dX3_even_12 : decode cX3_even 12 = .ok (.if_icmp .ge 28, 3) := dk_162 0 28 (dk_at dksX3_even_0 12 rfl rfl)
theorem dX3_even_15 : decode cX3_even 15 = .ok (.aload_n 0, 1) := dk_42 (dk_at dksX3_even_0 15 rfl rfl)
theorem dX3_even_16 : decode cX3_even 16 = .ok (.iload_n 3, 1) := dk_29 (dk_at dksX3_even_0 16 rfl rfl)
theorem dX3_even_17 : decode cX3_even 17 = .ok (.invokevirtual 124, 3) := dk_182 0 124 (dk_at dksX3_even_0 17 rfl rfl)
theorem dX3_even_20 : decode cX3_even 20 = .ok (.iload_n 2, 1) := dk_28 (dk_at dksX3_even_0 20 rfl rfl)
theorem dX3_even_21 : decode cX3_even 21 = .ok (.if_icmp .ge 11, 3) := dk_162 0 11 (dk_at dksX3_even_0 21 rfl rfl)
theorem dX3_even_24 : decode cX3_even 24 = .ok (.aload_n 0, 1) := dk_42 (dk_at dksX3_even_1 0 rfl rfl)
theorem dX3_even_25 : decode cX3_even 25 = .ok (.iload_n 3, 1) := dk_29 (dk_at dksX3_even_1 1 rfl rfl)
theorem dX3_even_26 : decode cX3_even 26 = .ok (.invokevirtual 124, 3) := dk_182 0 124 (dk_at dksX3_even_1 2 rfl rfl)
theorem dX3_even_29 : decode cX3_even 29 = .ok (.goto 4, 3) := dk_167 0 4 (dk_at dksX3_even_1 5 rfl rfl)
theorem dX3_even_32 : decode cX3_even 32 = .ok (.iload_n 2, 1) := dk_28 (dk_at dksX3_even_1 8 rfl rfl)
theorem dX3_even_33 : decode cX3_even 33 = .ok (.istore_n 2, 1) := dk_61 (dk_at dksX3_even_1 9 rfl rfl)
theorem dX3_even_34 : decode cX3_even 34 = .ok (.iinc 3 1, 3) := dk_132 3 1 (dk_at dksX3_even_1 10 rfl rfl)
theorem dX3_even_37 : decode cX3_even 37 = .ok (.goto (-28), 3) := dk_167 255 228 (dk_at dksX3_even_1 13 rfl rfl)
theorem dX3_even_40 : decode cX3_even 40 = .ok (.iload_n 1, 1) := dk_27 (dk_at dksX3_even_1 16 rfl rfl)
theorem dX3_even_41 : decode cX3_even 41 = .ok (.ifCond .ne 7, 3) := dk_154 0 7 (dk_at dksX3_even_1 17 rfl rfl)
theorem dX3_even_44 : decode cX3_even 44 = .ok (.dconst 1, 1) := dk_15 (dk_at dksX3_even_1 20 rfl rfl)
theorem dX3_even_45 : decode cX3_even 45 = .ok (.goto 8, 3) := dk_167 0 8 (dk_at dksX3_even_1 21 rfl rfl)
theorem dX3_even_48 : decode cX3_even 48 = .ok (.iload_n 2, 1) := dk_28 (dk_at dksX3_even_2 0 rfl rfl)
theorem dX3_even_49 : decode cX3_even 49 = .ok (.i2d, 1) := dk_135 (dk_at dksX3_even_2 1 rfl rfl)
theorem dX3_even_50 : decode cX3_even 50 = .ok (.iload_n 1, 1) := dk_27 (dk_at dksX3_even_2 2 rfl rfl)
theorem dX3_even_51 : decode cX3_even 51 = .ok (.i2d, 1) := dk_135 (dk_at dksX3_even_2 3 rfl rfl)
theorem dX3_even_52 : decode cX3_even 52 = .ok (.ddiv, 1) := dk_111 (dk_at dksX3_even_2 4 rfl rfl)
theorem dX3_even_53 : decode cX3_even 53 = .ok (.dreturn, 1) := dk_175 (dk_at dksX3_even_2 5 rfl rfl)
abbrev cX3_digest : ByteArray := prog_8_method_66_code
def yX3_digest : MethodName := ⟨RX3, "digest", "()J"⟩
def dkwX3_digest_11 : List UInt8 := [132, 1, 1, 167, 255, 234, 42, 180, 0, 195, 173]
abbrev dktX3_digest_11 : List UInt8 := dkwX3_digest_11 ++ []
def dkwX3_digest_10 : List UInt8 := [182, 0, 201, 3, 60, 27, 42, 180, 0, 137, 162, 0, 20, 42, 42, 180, 0, 19, 27, 46, 133, 182, 0, 201]
abbrev dktX3_digest_10 : List UInt8 := dkwX3_digest_10 ++ dktX3_digest_11
def dkwX3_digest_9 : List UInt8 := [132, 1, 1, 167, 255, 232, 42, 42, 182, 0, 189, 184, 0, 205, 182, 0, 201, 42, 42, 180, 0, 137, 133]
abbrev dktX3_digest_9 : List UInt8 := dkwX3_digest_9 ++ dktX3_digest_10
def dkwX3_digest_8 : List UInt8 := [3, 60, 27, 16, 12, 162, 0, 24, 42, 42, 27, 7, 108, 27, 7, 112, 182, 0, 186, 133, 182, 0, 201]
abbrev dktX3_digest_8 : List UInt8 := dkwX3_digest_8 ++ dktX3_digest_9
def dkwX3_digest_7 : List UInt8 := [182, 0, 86, 133, 182, 0, 201, 132, 1, 1, 167, 255, 203, 42, 42, 16, 7, 182, 0, 183, 133, 182, 0, 201]
abbrev dktX3_digest_7 : List UInt8 := dkwX3_digest_7 ++ dktX3_digest_8
def dkwX3_digest_6 : List UInt8 := [42, 27, 28, 182, 0, 49, 133, 182, 0, 201, 132, 2, 1, 167, 255, 237, 42, 42, 42, 27, 3, 182, 0, 49]
abbrev dktX3_digest_6 : List UInt8 := dkwX3_digest_6 ++ dktX3_digest_7
def dkwX3_digest_5 : List UInt8 := [167, 255, 201, 3, 60, 27, 42, 180, 0, 7, 16, 9, 46, 162, 0, 48, 3, 61, 28, 6, 162, 0, 20, 42]
abbrev dktX3_digest_5 : List UInt8 := dkwX3_digest_5 ++ dktX3_digest_6
def dkwX3_digest_4 : List UInt8 := [42, 42, 27, 182, 0, 64, 133, 182, 0, 201, 42, 42, 27, 8, 182, 0, 180, 133, 182, 0, 201, 132, 1, 1]
abbrev dktX3_digest_4 : List UInt8 := dkwX3_digest_4 ++ dktX3_digest_5
def dkwX3_digest_3 : List UInt8 := [61, 28, 16, 6, 162, 0, 20, 42, 42, 27, 28, 182, 0, 165, 133, 182, 0, 201, 132, 2, 1, 167, 255, 236]
abbrev dktX3_digest_3 : List UInt8 := dkwX3_digest_3 ++ dktX3_digest_4
def dkwX3_digest_2 : List UInt8 := [180, 0, 7, 27, 46, 133, 182, 0, 201, 132, 1, 1, 167, 255, 237, 3, 60, 27, 16, 12, 162, 0, 55, 3]
abbrev dktX3_digest_2 : List UInt8 := dkwX3_digest_2 ++ dktX3_digest_3
def dkwX3_digest_1 : List UInt8 := [182, 0, 177, 133, 182, 0, 201, 132, 1, 1, 167, 255, 237, 3, 60, 27, 6, 162, 0, 20, 42, 42]
abbrev dktX3_digest_1 : List UInt8 := dkwX3_digest_1 ++ dktX3_digest_2
def dkwX3_digest_0 : List UInt8 := [42, 3, 181, 0, 38, 42, 20, 0, 199, 181, 0, 195, 3, 60, 27, 16, 11, 162, 0, 19, 42, 42, 27]
abbrev dktX3_digest_0 : List UInt8 := dkwX3_digest_0 ++ dktX3_digest_1
theorem dksX3_digest_0 : cX3_digest.data.toList.drop 0 = dktX3_digest_0 := by decide +kernel
theorem dksX3_digest_1 : cX3_digest.data.toList.drop 23 = dktX3_digest_1 := dk_seg dksX3_digest_0 23 rfl rfl
theorem dksX3_digest_2 : cX3_digest.data.toList.drop 45 = dktX3_digest_2 := dk_seg dksX3_digest_1 22 rfl rfl
theorem dksX3_digest_3 : cX3_digest.data.toList.drop 69 = dktX3_digest_3 := dk_seg dksX3_digest_2 24 rfl rfl
theorem dksX3_digest_4 : cX3_digest.data.toList.drop 93 = dktX3_digest_4 := dk_seg dksX3_digest_3 24 rfl rfl
theorem dksX3_digest_5 : cX3_digest.data.toList.drop 117 = dktX3_digest_5 := dk_seg dksX3_digest_4 24 rfl rfl
theorem dksX3_digest_6 : cX3_digest.data.toList.drop 141 = dktX3_digest_6 := dk_seg dksX3_digest_5 24 rfl rfl
theorem dksX3_digest_7 : cX3_digest.data.toList.drop 165 = dktX3_digest_7 := dk_seg dksX3_digest_6 24 rfl rfl
theorem dksX3_digest_8 : cX3_digest.data.toList.drop 189 = dktX3_digest_8 := dk_seg dksX3_digest_7 24 rfl rfl
theorem dksX3_digest_9 : cX3_digest.data.toList.drop 212 = dktX3_digest_9 := dk_seg dksX3_digest_8 23 rfl rfl
theorem dksX3_digest_10 : cX3_digest.data.toList.drop 235 = dktX3_digest_10 := dk_seg dksX3_digest_9 23 rfl rfl
theorem dksX3_digest_11 : cX3_digest.data.toList.drop 259 = dktX3_digest_11 := dk_seg dksX3_digest_10 24 rfl rfl
theorem dX3_digest_0 : decode cX3_digest 0 = .ok (.aload_n 0, 1) := dk_42 (dk_at dksX3_digest_0 0 rfl rfl)
theorem dX3_digest_1 : decode cX3_digest 1 = .ok (.iconst 0, 1) := dk_3 (dk_at dksX3_digest_0 1 rfl rfl)
theorem dX3_digest_2 : decode cX3_digest 2 = .ok (.putfield 38, 3) := dk_181 0 38 (dk_at dksX3_digest_0 2 rfl rfl)
theorem dX3_digest_5 : decode cX3_digest 5 = .ok (.aload_n 0, 1) := dk_42 (dk_at dksX3_digest_0 5 rfl rfl)
theorem dX3_digest_6 : decode cX3_digest 6 = .ok (.ldc2_w 199, 3) := dk_20 0 199 (dk_at dksX3_digest_0 6 rfl rfl)
theorem dX3_digest_9 : decode cX3_digest 9 = .ok (.putfield 195, 3) := dk_181 0 195 (dk_at dksX3_digest_0 9 rfl rfl)
theorem dX3_digest_12 : decode cX3_digest 12 = .ok (.iconst 0, 1) := dk_3 (dk_at dksX3_digest_0 12 rfl rfl)
theorem dX3_digest_13 : decode cX3_digest 13 = .ok (.istore_n 1, 1) := dk_60 (dk_at dksX3_digest_0 13 rfl rfl)
theorem dX3_digest_14 : decode cX3_digest 14 = .ok (.iload_n 1, 1) := dk_27 (dk_at dksX3_digest_0 14 rfl rfl)
theorem dX3_digest_15 : decode cX3_digest 15 = .ok (.bipush 11, 2) := dk_16 11 (dk_at dksX3_digest_0 15 rfl rfl)
theorem dX3_digest_17 : decode cX3_digest 17 = .ok (.if_icmp .ge 19, 3) := dk_162 0 19 (dk_at dksX3_digest_0 17 rfl rfl)
theorem dX3_digest_20 : decode cX3_digest 20 = .ok (.aload_n 0, 1) := dk_42 (dk_at dksX3_digest_0 20 rfl rfl)
theorem dX3_digest_21 : decode cX3_digest 21 = .ok (.aload_n 0, 1) := dk_42 (dk_at dksX3_digest_0 21 rfl rfl)
theorem dX3_digest_22 : decode cX3_digest 22 = .ok (.iload_n 1, 1) := dk_27 (dk_at dksX3_digest_0 22 rfl rfl)
theorem dX3_digest_23 : decode cX3_digest 23 = .ok (.invokevirtual 177, 3) := dk_182 0 177 (dk_at dksX3_digest_1 0 rfl rfl)
theorem dX3_digest_26 : decode cX3_digest 26 = .ok (.i2l, 1) := dk_133 (dk_at dksX3_digest_1 3 rfl rfl)
theorem dX3_digest_27 : decode cX3_digest 27 = .ok (.invokevirtual 201, 3) := dk_182 0 201 (dk_at dksX3_digest_1 4 rfl rfl)
theorem dX3_digest_30 : decode cX3_digest 30 = .ok (.iinc 1 1, 3) := dk_132 1 1 (dk_at dksX3_digest_1 7 rfl rfl)
theorem dX3_digest_33 : decode cX3_digest 33 = .ok (.goto (-19), 3) := dk_167 255 237 (dk_at dksX3_digest_1 10 rfl rfl)
theorem dX3_digest_36 : decode cX3_digest 36 = .ok (.iconst 0, 1) := dk_3 (dk_at dksX3_digest_1 13 rfl rfl)
theorem dX3_digest_37 : decode cX3_digest 37 = .ok (.istore_n 1, 1) := dk_60 (dk_at dksX3_digest_1 14 rfl rfl)
theorem dX3_digest_38 : decode cX3_digest 38 = .ok (.iload_n 1, 1) := dk_27 (dk_at dksX3_digest_1 15 rfl rfl)
theorem dX3_digest_39 : decode cX3_digest 39 = .ok (.iconst 3, 1) := dk_6 (dk_at dksX3_digest_1 16 rfl rfl)
theorem dX3_digest_40 : decode cX3_digest 40 = .ok (.if_icmp .ge 20, 3) := dk_162 0 20 (dk_at dksX3_digest_1 17 rfl rfl)
theorem dX3_digest_43 : decode cX3_digest 43 = .ok (.aload_n 0, 1) := dk_42 (dk_at dksX3_digest_1 20 rfl rfl)
theorem dX3_digest_44 : decode cX3_digest 44 = .ok (.aload_n 0, 1) := dk_42 (dk_at dksX3_digest_1 21 rfl rfl)
theorem dX3_digest_45 : decode cX3_digest 45 = .ok (.getfield 7, 3) := dk_180 0 7 (dk_at dksX3_digest_2 0 rfl rfl)
theorem dX3_digest_48 : decode cX3_digest 48 = .ok (.iload_n 1, 1) := dk_27 (dk_at dksX3_digest_2 3 rfl rfl)
theorem dX3_digest_49 : decode cX3_digest 49 = .ok (.iaload, 1) := dk_46 (dk_at dksX3_digest_2 4 rfl rfl)
theorem dX3_digest_50 : decode cX3_digest 50 = .ok (.i2l, 1) := dk_133 (dk_at dksX3_digest_2 5 rfl rfl)
theorem dX3_digest_51 : decode cX3_digest 51 = .ok (.invokevirtual 201, 3) := dk_182 0 201 (dk_at dksX3_digest_2 6 rfl rfl)
theorem dX3_digest_54 : decode cX3_digest 54 = .ok (.iinc 1 1, 3) := dk_132 1 1 (dk_at dksX3_digest_2 9 rfl rfl)
theorem dX3_digest_57 : decode cX3_digest 57 = .ok (.goto (-19), 3) := dk_167 255 237 (dk_at dksX3_digest_2 12 rfl rfl)
theorem dX3_digest_60 : decode cX3_digest 60 = .ok (.iconst 0, 1) := dk_3 (dk_at dksX3_digest_2 15 rfl rfl)
theorem dX3_digest_61 : decode cX3_digest 61 = .ok (.istore_n 1, 1) := dk_60 (dk_at dksX3_digest_2 16 rfl rfl)
theorem dX3_digest_62 : decode cX3_digest 62 = .ok (.iload_n 1, 1) := dk_27 (dk_at dksX3_digest_2 17 rfl rfl)
theorem dX3_digest_63 : decode cX3_digest 63 = .ok (.bipush 12, 2) := dk_16 12 (dk_at dksX3_digest_2 18 rfl rfl)
theorem dX3_digest_65 : decode cX3_digest 65 = .ok (.if_icmp .ge 55, 3) := dk_162 0 55 (dk_at dksX3_digest_2 20 rfl rfl)
theorem dX3_digest_68 : decode cX3_digest 68 = .ok (.iconst 0, 1) := dk_3 (dk_at dksX3_digest_2 23 rfl rfl)
theorem dX3_digest_69 : decode cX3_digest 69 = .ok (.istore_n 2, 1) := dk_61 (dk_at dksX3_digest_3 0 rfl rfl)
theorem dX3_digest_70 : decode cX3_digest 70 = .ok (.iload_n 2, 1) := dk_28 (dk_at dksX3_digest_3 1 rfl rfl)
theorem dX3_digest_71 : decode cX3_digest 71 = .ok (.bipush 6, 2) := dk_16 6 (dk_at dksX3_digest_3 2 rfl rfl)
theorem dX3_digest_73 : decode cX3_digest 73 = .ok (.if_icmp .ge 20, 3) := dk_162 0 20 (dk_at dksX3_digest_3 4 rfl rfl)
theorem dX3_digest_76 : decode cX3_digest 76 = .ok (.aload_n 0, 1) := dk_42 (dk_at dksX3_digest_3 7 rfl rfl)
theorem dX3_digest_77 : decode cX3_digest 77 = .ok (.aload_n 0, 1) := dk_42 (dk_at dksX3_digest_3 8 rfl rfl)
theorem dX3_digest_78 : decode cX3_digest 78 = .ok (.iload_n 1, 1) := dk_27 (dk_at dksX3_digest_3 9 rfl rfl)
theorem dX3_digest_79 : decode cX3_digest 79 = .ok (.iload_n 2, 1) := dk_28 (dk_at dksX3_digest_3 10 rfl rfl)
theorem dX3_digest_80 : decode cX3_digest 80 = .ok (.invokevirtual 165, 3) := dk_182 0 165 (dk_at dksX3_digest_3 11 rfl rfl)
theorem dX3_digest_83 : decode cX3_digest 83 = .ok (.i2l, 1) := dk_133 (dk_at dksX3_digest_3 14 rfl rfl)
theorem dX3_digest_84 : decode cX3_digest 84 = .ok (.invokevirtual 201, 3) := dk_182 0 201 (dk_at dksX3_digest_3 15 rfl rfl)
theorem dX3_digest_87 : decode cX3_digest 87 = .ok (.iinc 2 1, 3) := dk_132 2 1 (dk_at dksX3_digest_3 18 rfl rfl)
theorem dX3_digest_90 : decode cX3_digest 90 = .ok (.goto (-20), 3) := dk_167 255 236 (dk_at dksX3_digest_3 21 rfl rfl)
theorem dX3_digest_93 : decode cX3_digest 93 = .ok (.aload_n 0, 1) := dk_42 (dk_at dksX3_digest_4 0 rfl rfl)
theorem dX3_digest_94 : decode cX3_digest 94 = .ok (.aload_n 0, 1) := dk_42 (dk_at dksX3_digest_4 1 rfl rfl)
theorem dX3_digest_95 : decode cX3_digest 95 = .ok (.iload_n 1, 1) := dk_27 (dk_at dksX3_digest_4 2 rfl rfl)
theorem dX3_digest_96 : decode cX3_digest 96 = .ok (.invokevirtual 64, 3) := dk_182 0 64 (dk_at dksX3_digest_4 3 rfl rfl)
theorem dX3_digest_99 : decode cX3_digest 99 = .ok (.i2l, 1) := dk_133 (dk_at dksX3_digest_4 6 rfl rfl)
theorem dX3_digest_100 : decode cX3_digest 100 = .ok (.invokevirtual 201, 3) := dk_182 0 201 (dk_at dksX3_digest_4 7 rfl rfl)
theorem dX3_digest_103 : decode cX3_digest 103 = .ok (.aload_n 0, 1) := dk_42 (dk_at dksX3_digest_4 10 rfl rfl)
theorem dX3_digest_104 : decode cX3_digest 104 = .ok (.aload_n 0, 1) := dk_42 (dk_at dksX3_digest_4 11 rfl rfl)
theorem dX3_digest_105 : decode cX3_digest 105 = .ok (.iload_n 1, 1) := dk_27 (dk_at dksX3_digest_4 12 rfl rfl)
theorem dX3_digest_106 : decode cX3_digest 106 = .ok (.iconst 5, 1) := dk_8 (dk_at dksX3_digest_4 13 rfl rfl)
theorem dX3_digest_107 : decode cX3_digest 107 = .ok (.invokevirtual 180, 3) := dk_182 0 180 (dk_at dksX3_digest_4 14 rfl rfl)
theorem dX3_digest_110 : decode cX3_digest 110 = .ok (.i2l, 1) := dk_133 (dk_at dksX3_digest_4 17 rfl rfl)
theorem dX3_digest_111 : decode cX3_digest 111 = .ok (.invokevirtual 201, 3) := dk_182 0 201 (dk_at dksX3_digest_4 18 rfl rfl)
theorem dX3_digest_114 : decode cX3_digest 114 = .ok (.iinc 1 1, 3) := dk_132 1 1 (dk_at dksX3_digest_4 21 rfl rfl)
theorem dX3_digest_117 : decode cX3_digest 117 = .ok (.goto (-55), 3) := dk_167 255 201 (dk_at dksX3_digest_5 0 rfl rfl)
theorem dX3_digest_120 : decode cX3_digest 120 = .ok (.iconst 0, 1) := dk_3 (dk_at dksX3_digest_5 3 rfl rfl)
theorem dX3_digest_121 : decode cX3_digest 121 = .ok (.istore_n 1, 1) := dk_60 (dk_at dksX3_digest_5 4 rfl rfl)
theorem dX3_digest_122 : decode cX3_digest 122 = .ok (.iload_n 1, 1) := dk_27 (dk_at dksX3_digest_5 5 rfl rfl)
theorem dX3_digest_123 : decode cX3_digest 123 = .ok (.aload_n 0, 1) := dk_42 (dk_at dksX3_digest_5 6 rfl rfl)
theorem dX3_digest_124 : decode cX3_digest 124 = .ok (.getfield 7, 3) := dk_180 0 7 (dk_at dksX3_digest_5 7 rfl rfl)
theorem dX3_digest_127 : decode cX3_digest 127 = .ok (.bipush 9, 2) := dk_16 9 (dk_at dksX3_digest_5 10 rfl rfl)
theorem dX3_digest_129 : decode cX3_digest 129 = .ok (.iaload, 1) := dk_46 (dk_at dksX3_digest_5 12 rfl rfl)
theorem dX3_digest_130 : decode cX3_digest 130 = .ok (.if_icmp .ge 48, 3) := dk_162 0 48 (dk_at dksX3_digest_5 13 rfl rfl)
theorem dX3_digest_133 : decode cX3_digest 133 = .ok (.iconst 0, 1) := dk_3 (dk_at dksX3_digest_5 16 rfl rfl)
theorem dX3_digest_134 : decode cX3_digest 134 = .ok (.istore_n 2, 1) := dk_61 (dk_at dksX3_digest_5 17 rfl rfl)
theorem dX3_digest_135 : decode cX3_digest 135 = .ok (.iload_n 2, 1) := dk_28 (dk_at dksX3_digest_5 18 rfl rfl)
theorem dX3_digest_136 : decode cX3_digest 136 = .ok (.iconst 3, 1) := dk_6 (dk_at dksX3_digest_5 19 rfl rfl)
theorem dX3_digest_137 : decode cX3_digest 137 = .ok (.if_icmp .ge 20, 3) := dk_162 0 20 (dk_at dksX3_digest_5 20 rfl rfl)
theorem dX3_digest_140 : decode cX3_digest 140 = .ok (.aload_n 0, 1) := dk_42 (dk_at dksX3_digest_5 23 rfl rfl)
theorem dX3_digest_141 : decode cX3_digest 141 = .ok (.aload_n 0, 1) := dk_42 (dk_at dksX3_digest_6 0 rfl rfl)
theorem dX3_digest_142 : decode cX3_digest 142 = .ok (.iload_n 1, 1) := dk_27 (dk_at dksX3_digest_6 1 rfl rfl)
theorem dX3_digest_143 : decode cX3_digest 143 = .ok (.iload_n 2, 1) := dk_28 (dk_at dksX3_digest_6 2 rfl rfl)
theorem dX3_digest_144 : decode cX3_digest 144 = .ok (.invokevirtual 49, 3) := dk_182 0 49 (dk_at dksX3_digest_6 3 rfl rfl)
theorem dX3_digest_147 : decode cX3_digest 147 = .ok (.i2l, 1) := dk_133 (dk_at dksX3_digest_6 6 rfl rfl)
theorem dX3_digest_148 : decode cX3_digest 148 = .ok (.invokevirtual 201, 3) := dk_182 0 201 (dk_at dksX3_digest_6 7 rfl rfl)
theorem dX3_digest_151 : decode cX3_digest 151 = .ok (.iinc 2 1, 3) := dk_132 2 1 (dk_at dksX3_digest_6 10 rfl rfl)
theorem dX3_digest_154 : decode cX3_digest 154 = .ok (.goto (-19), 3) := dk_167 255 237 (dk_at dksX3_digest_6 13 rfl rfl)
theorem dX3_digest_157 : decode cX3_digest 157 = .ok (.aload_n 0, 1) := dk_42 (dk_at dksX3_digest_6 16 rfl rfl)
theorem dX3_digest_158 : decode cX3_digest 158 = .ok (.aload_n 0, 1) := dk_42 (dk_at dksX3_digest_6 17 rfl rfl)
theorem dX3_digest_159 : decode cX3_digest 159 = .ok (.aload_n 0, 1) := dk_42 (dk_at dksX3_digest_6 18 rfl rfl)
theorem dX3_digest_160 : decode cX3_digest 160 = .ok (.iload_n 1, 1) := dk_27 (dk_at dksX3_digest_6 19 rfl rfl)
theorem dX3_digest_161 : decode cX3_digest 161 = .ok (.iconst 0, 1) := dk_3 (dk_at dksX3_digest_6 20 rfl rfl)
theorem dX3_digest_162 : decode cX3_digest 162 = .ok (.invokevirtual 49, 3) := dk_182 0 49 (dk_at dksX3_digest_6 21 rfl rfl)
theorem dX3_digest_165 : decode cX3_digest 165 = .ok (.invokevirtual 86, 3) := dk_182 0 86 (dk_at dksX3_digest_7 0 rfl rfl)
theorem dX3_digest_168 : decode cX3_digest 168 = .ok (.i2l, 1) := dk_133 (dk_at dksX3_digest_7 3 rfl rfl)
theorem dX3_digest_169 : decode cX3_digest 169 = .ok (.invokevirtual 201, 3) := dk_182 0 201 (dk_at dksX3_digest_7 4 rfl rfl)
theorem dX3_digest_172 : decode cX3_digest 172 = .ok (.iinc 1 1, 3) := dk_132 1 1 (dk_at dksX3_digest_7 7 rfl rfl)
theorem dX3_digest_175 : decode cX3_digest 175 = .ok (.goto (-53), 3) := dk_167 255 203 (dk_at dksX3_digest_7 10 rfl rfl)
theorem dX3_digest_178 : decode cX3_digest 178 = .ok (.aload_n 0, 1) := dk_42 (dk_at dksX3_digest_7 13 rfl rfl)
theorem dX3_digest_179 : decode cX3_digest 179 = .ok (.aload_n 0, 1) := dk_42 (dk_at dksX3_digest_7 14 rfl rfl)
theorem dX3_digest_180 : decode cX3_digest 180 = .ok (.bipush 7, 2) := dk_16 7 (dk_at dksX3_digest_7 15 rfl rfl)
theorem dX3_digest_182 : decode cX3_digest 182 = .ok (.invokevirtual 183, 3) := dk_182 0 183 (dk_at dksX3_digest_7 17 rfl rfl)
theorem dX3_digest_185 : decode cX3_digest 185 = .ok (.i2l, 1) := dk_133 (dk_at dksX3_digest_7 20 rfl rfl)
theorem dX3_digest_186 : decode cX3_digest 186 = .ok (.invokevirtual 201, 3) := dk_182 0 201 (dk_at dksX3_digest_7 21 rfl rfl)
theorem dX3_digest_189 : decode cX3_digest 189 = .ok (.iconst 0, 1) := dk_3 (dk_at dksX3_digest_8 0 rfl rfl)
theorem dX3_digest_190 : decode cX3_digest 190 = .ok (.istore_n 1, 1) := dk_60 (dk_at dksX3_digest_8 1 rfl rfl)
theorem dX3_digest_191 : decode cX3_digest 191 = .ok (.iload_n 1, 1) := dk_27 (dk_at dksX3_digest_8 2 rfl rfl)
theorem dX3_digest_192 : decode cX3_digest 192 = .ok (.bipush 12, 2) := dk_16 12 (dk_at dksX3_digest_8 3 rfl rfl)
theorem dX3_digest_194 : decode cX3_digest 194 = .ok (.if_icmp .ge 24, 3) := dk_162 0 24 (dk_at dksX3_digest_8 5 rfl rfl)
theorem dX3_digest_197 : decode cX3_digest 197 = .ok (.aload_n 0, 1) := dk_42 (dk_at dksX3_digest_8 8 rfl rfl)
theorem dX3_digest_198 : decode cX3_digest 198 = .ok (.aload_n 0, 1) := dk_42 (dk_at dksX3_digest_8 9 rfl rfl)
theorem dX3_digest_199 : decode cX3_digest 199 = .ok (.iload_n 1, 1) := dk_27 (dk_at dksX3_digest_8 10 rfl rfl)
theorem dX3_digest_200 : decode cX3_digest 200 = .ok (.iconst 4, 1) := dk_7 (dk_at dksX3_digest_8 11 rfl rfl)
theorem dX3_digest_201 : decode cX3_digest 201 = .ok (.idiv, 1) := dk_108 (dk_at dksX3_digest_8 12 rfl rfl)
theorem dX3_digest_202 : decode cX3_digest 202 = .ok (.iload_n 1, 1) := dk_27 (dk_at dksX3_digest_8 13 rfl rfl)
theorem dX3_digest_203 : decode cX3_digest 203 = .ok (.iconst 4, 1) := dk_7 (dk_at dksX3_digest_8 14 rfl rfl)
theorem dX3_digest_204 : decode cX3_digest 204 = .ok (.irem, 1) := dk_112 (dk_at dksX3_digest_8 15 rfl rfl)
theorem dX3_digest_205 : decode cX3_digest 205 = .ok (.invokevirtual 186, 3) := dk_182 0 186 (dk_at dksX3_digest_8 16 rfl rfl)
theorem dX3_digest_208 : decode cX3_digest 208 = .ok (.i2l, 1) := dk_133 (dk_at dksX3_digest_8 19 rfl rfl)
theorem dX3_digest_209 : decode cX3_digest 209 = .ok (.invokevirtual 201, 3) := dk_182 0 201 (dk_at dksX3_digest_8 20 rfl rfl)
theorem dX3_digest_212 : decode cX3_digest 212 = .ok (.iinc 1 1, 3) := dk_132 1 1 (dk_at dksX3_digest_9 0 rfl rfl)
theorem dX3_digest_215 : decode cX3_digest 215 = .ok (.goto (-24), 3) := dk_167 255 232 (dk_at dksX3_digest_9 3 rfl rfl)
theorem dX3_digest_218 : decode cX3_digest 218 = .ok (.aload_n 0, 1) := dk_42 (dk_at dksX3_digest_9 6 rfl rfl)
theorem dX3_digest_219 : decode cX3_digest 219 = .ok (.aload_n 0, 1) := dk_42 (dk_at dksX3_digest_9 7 rfl rfl)
theorem dX3_digest_220 : decode cX3_digest 220 = .ok (.invokevirtual 189, 3) := dk_182 0 189 (dk_at dksX3_digest_9 8 rfl rfl)
theorem dX3_digest_223 : decode cX3_digest 223 = .ok (.invokestatic 205, 3) := dk_184 0 205 (dk_at dksX3_digest_9 11 rfl rfl)
theorem dX3_digest_226 : decode cX3_digest 226 = .ok (.invokevirtual 201, 3) := dk_182 0 201 (dk_at dksX3_digest_9 14 rfl rfl)
theorem dX3_digest_229 : decode cX3_digest 229 = .ok (.aload_n 0, 1) := dk_42 (dk_at dksX3_digest_9 17 rfl rfl)
theorem dX3_digest_230 : decode cX3_digest 230 = .ok (.aload_n 0, 1) := dk_42 (dk_at dksX3_digest_9 18 rfl rfl)
theorem dX3_digest_231 : decode cX3_digest 231 = .ok (.getfield 137, 3) := dk_180 0 137 (dk_at dksX3_digest_9 19 rfl rfl)
theorem dX3_digest_234 : decode cX3_digest 234 = .ok (.i2l, 1) := dk_133 (dk_at dksX3_digest_9 22 rfl rfl)
theorem dX3_digest_235 : decode cX3_digest 235 = .ok (.invokevirtual 201, 3) := dk_182 0 201 (dk_at dksX3_digest_10 0 rfl rfl)
theorem dX3_digest_238 : decode cX3_digest 238 = .ok (.iconst 0, 1) := dk_3 (dk_at dksX3_digest_10 3 rfl rfl)
theorem dX3_digest_239 : decode cX3_digest 239 = .ok (.istore_n 1, 1) := dk_60 (dk_at dksX3_digest_10 4 rfl rfl)
theorem dX3_digest_240 : decode cX3_digest 240 = .ok (.iload_n 1, 1) := dk_27 (dk_at dksX3_digest_10 5 rfl rfl)
theorem dX3_digest_241 : decode cX3_digest 241 = .ok (.aload_n 0, 1) := dk_42 (dk_at dksX3_digest_10 6 rfl rfl)
theorem dX3_digest_242 : decode cX3_digest 242 = .ok (.getfield 137, 3) := dk_180 0 137 (dk_at dksX3_digest_10 7 rfl rfl)
theorem dX3_digest_245 : decode cX3_digest 245 = .ok (.if_icmp .ge 20, 3) := dk_162 0 20 (dk_at dksX3_digest_10 10 rfl rfl)
theorem dX3_digest_248 : decode cX3_digest 248 = .ok (.aload_n 0, 1) := dk_42 (dk_at dksX3_digest_10 13 rfl rfl)
theorem dX3_digest_249 : decode cX3_digest 249 = .ok (.aload_n 0, 1) := dk_42 (dk_at dksX3_digest_10 14 rfl rfl)
theorem dX3_digest_250 : decode cX3_digest 250 = .ok (.getfield 19, 3) := dk_180 0 19 (dk_at dksX3_digest_10 15 rfl rfl)
theorem dX3_digest_253 : decode cX3_digest 253 = .ok (.iload_n 1, 1) := dk_27 (dk_at dksX3_digest_10 18 rfl rfl)
theorem dX3_digest_254 : decode cX3_digest 254 = .ok (.iaload, 1) := dk_46 (dk_at dksX3_digest_10 19 rfl rfl)
theorem dX3_digest_255 : decode cX3_digest 255 = .ok (.i2l, 1) := dk_133 (dk_at dksX3_digest_10 20 rfl rfl)
theorem dX3_digest_256 : decode cX3_digest 256 = .ok (.invokevirtual 201, 3) := dk_182 0 201 (dk_at dksX3_digest_10 21 rfl rfl)
theorem dX3_digest_259 : decode cX3_digest 259 = .ok (.iinc 1 1, 3) := dk_132 1 1 (dk_at dksX3_digest_11 0 rfl rfl)
theorem dX3_digest_262 : decode cX3_digest 262 = .ok (.goto (-22), 3) := dk_167 255 234 (dk_at dksX3_digest_11 3 rfl rfl)
theorem dX3_digest_265 : decode cX3_digest 265 = .ok (.aload_n 0, 1) := dk_42 (dk_at dksX3_digest_11 6 rfl rfl)
theorem dX3_digest_266 : decode cX3_digest 266 = .ok (.getfield 195, 3) := dk_180 0 195 (dk_at dksX3_digest_11 7 rfl rfl)
theorem dX3_digest_269 : decode cX3_digest 269 = .ok (.lreturn, 1) := dk_173 (dk_at dksX3_digest_11 10 rfl rfl)
abbrev cX3_hashes : ByteArray := prog_8_method_65_code
def yX3_hashes : MethodName := ⟨RX3, "hashes", "(J)V"⟩
def dkwX3_hashes_0 : List UInt8 := [42, 20, 0, 193, 42, 180, 0, 195, 105, 31, 97, 181, 0, 195, 177]
abbrev dktX3_hashes_0 : List UInt8 := dkwX3_hashes_0 ++ []
theorem dksX3_hashes_0 : cX3_hashes.data.toList.drop 0 = dktX3_hashes_0 := by decide +kernel
theorem dX3_hashes_0 : decode cX3_hashes 0 = .ok (.aload_n 0, 1) := dk_42 (dk_at dksX3_hashes_0 0 rfl rfl)
theorem dX3_hashes_1 : decode cX3_hashes 1 = .ok (.ldc2_w 193, 3) := dk_20 0 193 (dk_at dksX3_hashes_0 1 rfl rfl)
theorem dX3_hashes_4 : decode cX3_hashes 4 = .ok (.aload_n 0, 1) := dk_42 (dk_at dksX3_hashes_0 4 rfl rfl)
theorem dX3_hashes_5 : decode cX3_hashes 5 = .ok (.getfield 195, 3) := dk_180 0 195 (dk_at dksX3_hashes_0 5 rfl rfl)
theorem dX3_hashes_8 : decode cX3_hashes 8 = .ok (.lmul, 1) := dk_105 (dk_at dksX3_hashes_0 8 rfl rfl)
theorem dX3_hashes_9 : decode cX3_hashes 9 = .ok (.lload_n 1, 1) := dk_31 (dk_at dksX3_hashes_0 9 rfl rfl)
theorem dX3_hashes_10 : decode cX3_hashes 10 = .ok (.ladd, 1) := dk_97 (dk_at dksX3_hashes_0 10 rfl rfl)
theorem dX3_hashes_11 : decode cX3_hashes 11 = .ok (.putfield 195, 3) := dk_181 0 195 (dk_at dksX3_hashes_0 11 rfl rfl)
theorem dX3_hashes_14 : decode cX3_hashes 14 = .ok (.return_, 1) := dk_177 (dk_at dksX3_hashes_0 14 rfl rfl)
theorem q83 : (Jvm.Cond.initialized "DrawerRingModel") ∈ lw_all := lw_g (lw_at lw_m1 12 rfl) rfl
theorem q765 : (Jvm.Cond.selects "DrawerRingModel" ({ cls := "java/lang/Object", name := "hashCode", desc := "()I" } : Jvm.MethodName) ({ cls := "java/lang/Object", name := "hashCode", desc := "()I" } : Jvm.MethodName)) ∈ lw_all := lw_g (lw_at lw_m3 214 rfl) rfl
theorem q848 : (Jvm.Cond.selects "DrawerRingModel" ({ cls := "java/lang/Object", name := "equals", desc := "(Ljava/lang/Object;)Z" } : Jvm.MethodName) ({ cls := "java/lang/Object", name := "equals", desc := "(Ljava/lang/Object;)Z" } : Jvm.MethodName)) ∈ lw_all := lw_g (lw_at lw_m4 57 rfl) rfl
theorem q892 : (Jvm.Cond.selects "DrawerRingModel" ({ cls := "java/lang/Object", name := "getClass", desc := "()Ljava/lang/Class;" } : Jvm.MethodName) ({ cls := "java/lang/Object", name := "getClass", desc := "()Ljava/lang/Class;" } : Jvm.MethodName)) ∈ lw_all := lw_g (lw_at lw_m4 101 rfl) rfl
theorem q1747 : (Jvm.Cond.instantiable "DrawerRingModel" (16 : Nat)) ∈ lw_all := lw_g (lw_at lw_m7 236 rfl) rfl
theorem q1749 : (Jvm.Cond.instanceMethod ({ cls := "DrawerRingModel", name := "<init>", desc := "()V" } : Jvm.MethodName)) ∈ lw_all := lw_g (lw_at lw_m7 238 rfl) rfl
theorem q1750 : (Jvm.Cond.code ({ cls := "DrawerRingModel", name := "<init>", desc := "()V" } : Jvm.MethodName) prog_8_method_1_code (1 : Nat) (Option.none : Option Jvm.ClassFile.FieldType)) ∈ lw_all := lw_g (lw_at lw_m7 239 rfl) rfl
theorem q1751 : (Jvm.Cond.methodLink "DrawerRingModel" (1 : Nat) ({ cls := "java/lang/Object", name := "<init>", desc := "()V" } : Jvm.MethodName)) ∈ lw_all := lw_g (lw_at lw_m8 0 rfl) rfl
theorem q1752 : (Jvm.Cond.fieldLink "DrawerRingModel" (38 : Nat) "DrawerRingModel" "thrown" "I") ∈ lw_all := lw_g (lw_at lw_m8 1 rfl) rfl
theorem q1753 : (Jvm.Cond.fieldLink "DrawerRingModel" (7 : Nat) "DrawerRingModel" "s" "[I") ∈ lw_all := lw_g (lw_at lw_m8 2 rfl) rfl
theorem q1754 : (Jvm.Cond.fieldLink "DrawerRingModel" (13 : Nat) "DrawerRingModel" "aside" "[I") ∈ lw_all := lw_g (lw_at lw_m8 3 rfl) rfl
theorem q1755 : (Jvm.Cond.fieldLink "DrawerRingModel" (16 : Nat) "DrawerRingModel" "saved" "[I") ∈ lw_all := lw_g (lw_at lw_m8 4 rfl) rfl
theorem q1756 : (Jvm.Cond.fieldLink "DrawerRingModel" (46 : Nat) "DrawerRingModel" "savedMany" "I") ∈ lw_all := lw_g (lw_at lw_m8 5 rfl) rfl
theorem q1757 : (Jvm.Cond.fieldLink "DrawerRingModel" (19 : Nat) "DrawerRingModel" "buffer" "[I") ∈ lw_all := lw_g (lw_at lw_m8 6 rfl) rfl
theorem q1758 : (Jvm.Cond.fieldLink "DrawerRingModel" (137 : Nat) "DrawerRingModel" "length" "I") ∈ lw_all := lw_g (lw_at lw_m8 7 rfl) rfl
theorem q1759 : (Jvm.Cond.fieldLink "DrawerRingModel" (140 : Nat) "DrawerRingModel" "at" "I") ∈ lw_all := lw_g (lw_at lw_m8 8 rfl) rfl
theorem q1760 : (Jvm.Cond.fieldLink "DrawerRingModel" (146 : Nat) "DrawerRingModel" "isWell" "Z") ∈ lw_all := lw_g (lw_at lw_m8 9 rfl) rfl
theorem q1761 : (Jvm.Cond.fieldLink "DrawerRingModel" (22 : Nat) "DrawerRingModel" "batch" "[I") ∈ lw_all := lw_g (lw_at lw_m8 10 rfl) rfl
theorem q1762 : (Jvm.Cond.fieldLink "DrawerRingModel" (83 : Nat) "DrawerRingModel" "batchMany" "I") ∈ lw_all := lw_g (lw_at lw_m8 11 rfl) rfl
theorem q1763 : (Jvm.Cond.fieldLink "DrawerRingModel" (25 : Nat) "DrawerRingModel" "order" "[I") ∈ lw_all := lw_g (lw_at lw_m8 12 rfl) rfl
theorem q1764 : (Jvm.Cond.fieldLink "DrawerRingModel" (28 : Nat) "DrawerRingModel" "bestOrder" "[I") ∈ lw_all := lw_g (lw_at lw_m8 13 rfl) rfl
theorem q1765 : (Jvm.Cond.fieldLink "DrawerRingModel" (31 : Nat) "DrawerRingModel" "isPicked" "[Z") ∈ lw_all := lw_g (lw_at lw_m8 14 rfl) rfl
theorem q1766 : (Jvm.Cond.fieldLink "DrawerRingModel" (35 : Nat) "DrawerRingModel" "start" "[I") ∈ lw_all := lw_g (lw_at lw_m8 15 rfl) rfl
theorem q1767 : (Jvm.Cond.fieldLink "DrawerRingModel" (195 : Nat) "DrawerRingModel" "hash" "J") ∈ lw_all := lw_g (lw_at lw_m8 16 rfl) rfl
theorem q1768 : (Jvm.Cond.lays "DrawerRingModel" "DrawerRingModel" "thrown" "I") ∈ lw_all := lw_g (lw_at lw_m8 17 rfl) rfl
theorem q1769 : (Jvm.Cond.soleField "DrawerRingModel" "thrown") ∈ lw_all := lw_g (lw_at lw_m8 18 rfl) rfl
theorem q1770 : (Jvm.Cond.laysFinal "DrawerRingModel" "DrawerRingModel" "s" "[I") ∈ lw_all := lw_g (lw_at lw_m8 19 rfl) rfl
theorem q1771 : (Jvm.Cond.soleField "DrawerRingModel" "s") ∈ lw_all := lw_g (lw_at lw_m8 20 rfl) rfl
theorem q1772 : (Jvm.Cond.laysFinal "DrawerRingModel" "DrawerRingModel" "aside" "[I") ∈ lw_all := lw_g (lw_at lw_m8 21 rfl) rfl
theorem q1773 : (Jvm.Cond.soleField "DrawerRingModel" "aside") ∈ lw_all := lw_g (lw_at lw_m8 22 rfl) rfl
theorem q1774 : (Jvm.Cond.laysFinal "DrawerRingModel" "DrawerRingModel" "saved" "[I") ∈ lw_all := lw_g (lw_at lw_m8 23 rfl) rfl
theorem q1775 : (Jvm.Cond.soleField "DrawerRingModel" "saved") ∈ lw_all := lw_g (lw_at lw_m8 24 rfl) rfl
theorem q1776 : (Jvm.Cond.lays "DrawerRingModel" "DrawerRingModel" "savedMany" "I") ∈ lw_all := lw_g (lw_at lw_m8 25 rfl) rfl
theorem q1777 : (Jvm.Cond.soleField "DrawerRingModel" "savedMany") ∈ lw_all := lw_g (lw_at lw_m8 26 rfl) rfl
theorem q1778 : (Jvm.Cond.laysFinal "DrawerRingModel" "DrawerRingModel" "buffer" "[I") ∈ lw_all := lw_g (lw_at lw_m8 27 rfl) rfl
theorem q1779 : (Jvm.Cond.soleField "DrawerRingModel" "buffer") ∈ lw_all := lw_g (lw_at lw_m8 28 rfl) rfl
theorem q1780 : (Jvm.Cond.lays "DrawerRingModel" "DrawerRingModel" "length" "I") ∈ lw_all := lw_g (lw_at lw_m8 29 rfl) rfl
theorem q1781 : (Jvm.Cond.soleField "DrawerRingModel" "length") ∈ lw_all := lw_g (lw_at lw_m8 30 rfl) rfl
theorem q1782 : (Jvm.Cond.lays "DrawerRingModel" "DrawerRingModel" "at" "I") ∈ lw_all := lw_g (lw_at lw_m8 31 rfl) rfl
theorem q1783 : (Jvm.Cond.soleField "DrawerRingModel" "at") ∈ lw_all := lw_g (lw_at lw_m8 32 rfl) rfl
theorem q1784 : (Jvm.Cond.lays "DrawerRingModel" "DrawerRingModel" "isWell" "Z") ∈ lw_all := lw_g (lw_at lw_m8 33 rfl) rfl
theorem q1785 : (Jvm.Cond.soleField "DrawerRingModel" "isWell") ∈ lw_all := lw_g (lw_at lw_m8 34 rfl) rfl
theorem q1786 : (Jvm.Cond.laysFinal "DrawerRingModel" "DrawerRingModel" "batch" "[I") ∈ lw_all := lw_g (lw_at lw_m8 35 rfl) rfl
theorem q1787 : (Jvm.Cond.soleField "DrawerRingModel" "batch") ∈ lw_all := lw_g (lw_at lw_m8 36 rfl) rfl
theorem q1788 : (Jvm.Cond.lays "DrawerRingModel" "DrawerRingModel" "batchMany" "I") ∈ lw_all := lw_g (lw_at lw_m8 37 rfl) rfl
theorem q1789 : (Jvm.Cond.soleField "DrawerRingModel" "batchMany") ∈ lw_all := lw_g (lw_at lw_m8 38 rfl) rfl
theorem q1790 : (Jvm.Cond.laysFinal "DrawerRingModel" "DrawerRingModel" "order" "[I") ∈ lw_all := lw_g (lw_at lw_m8 39 rfl) rfl
theorem q1791 : (Jvm.Cond.soleField "DrawerRingModel" "order") ∈ lw_all := lw_g (lw_at lw_m8 40 rfl) rfl
theorem q1792 : (Jvm.Cond.laysFinal "DrawerRingModel" "DrawerRingModel" "bestOrder" "[I") ∈ lw_all := lw_g (lw_at lw_m8 41 rfl) rfl
theorem q1793 : (Jvm.Cond.soleField "DrawerRingModel" "bestOrder") ∈ lw_all := lw_g (lw_at lw_m8 42 rfl) rfl
theorem q1794 : (Jvm.Cond.laysFinal "DrawerRingModel" "DrawerRingModel" "isPicked" "[Z") ∈ lw_all := lw_g (lw_at lw_m8 43 rfl) rfl
theorem q1795 : (Jvm.Cond.soleField "DrawerRingModel" "isPicked") ∈ lw_all := lw_g (lw_at lw_m8 44 rfl) rfl
theorem q1796 : (Jvm.Cond.laysFinal "DrawerRingModel" "DrawerRingModel" "start" "[I") ∈ lw_all := lw_g (lw_at lw_m8 45 rfl) rfl
theorem q1797 : (Jvm.Cond.soleField "DrawerRingModel" "start") ∈ lw_all := lw_g (lw_at lw_m8 46 rfl) rfl
theorem q1798 : (Jvm.Cond.lays "DrawerRingModel" "DrawerRingModel" "hash" "J") ∈ lw_all := lw_g (lw_at lw_m8 47 rfl) rfl
theorem q1799 : (Jvm.Cond.soleField "DrawerRingModel" "hash") ∈ lw_all := lw_g (lw_at lw_m8 48 rfl) rfl
theorem q1800 : (Jvm.Cond.superclass "DrawerRingModel" "java/lang/Object") ∈ lw_all := lw_g (lw_at lw_m8 49 rfl) rfl
theorem q1802 : (Jvm.Cond.instanceMethod ({ cls := "DrawerRingModel", name := "thrown", desc := "()I" } : Jvm.MethodName)) ∈ lw_all := lw_g (lw_at lw_m8 51 rfl) rfl
theorem q1803 : (Jvm.Cond.selects "DrawerRingModel" ({ cls := "DrawerRingModel", name := "thrown", desc := "()I" } : Jvm.MethodName) ({ cls := "DrawerRingModel", name := "thrown", desc := "()I" } : Jvm.MethodName)) ∈ lw_all := lw_g (lw_at lw_m8 52 rfl) rfl
theorem q1804 : (Jvm.Cond.code ({ cls := "DrawerRingModel", name := "thrown", desc := "()I" } : Jvm.MethodName) prog_8_method_2_code (1 : Nat) (Option.some Jvm.ClassFile.FieldType.int)) ∈ lw_all := lw_g (lw_at lw_m8 53 rfl) rfl
theorem q1806 : (Jvm.Cond.instanceMethod ({ cls := "DrawerRingModel", name := "put", desc := "(II)I" } : Jvm.MethodName)) ∈ lw_all := lw_g (lw_at lw_m8 55 rfl) rfl
theorem q1807 : (Jvm.Cond.selects "DrawerRingModel" ({ cls := "DrawerRingModel", name := "put", desc := "(II)I" } : Jvm.MethodName) ({ cls := "DrawerRingModel", name := "put", desc := "(II)I" } : Jvm.MethodName)) ∈ lw_all := lw_g (lw_at lw_m8 56 rfl) rfl
theorem q1808 : (Jvm.Cond.code ({ cls := "DrawerRingModel", name := "put", desc := "(II)I" } : Jvm.MethodName) prog_8_method_31_code (4 : Nat) (Option.some Jvm.ClassFile.FieldType.int)) ∈ lw_all := lw_g (lw_at lw_m8 57 rfl) rfl
theorem q1809 : (Jvm.Cond.methodLink "DrawerRingModel" (117 : Nat) ({ cls := "DrawerRingModel", name := "isDrawer", desc := "(I)Z" } : Jvm.MethodName)) ∈ lw_all := lw_g (lw_at lw_m8 58 rfl) rfl
theorem q1810 : (Jvm.Cond.static ({ cls := "DrawerRingModel", name := "isDrawer", desc := "(I)Z" } : Jvm.MethodName)) ∈ lw_all := lw_g (lw_at lw_m8 59 rfl) rfl
theorem q1811 : (Jvm.Cond.code ({ cls := "DrawerRingModel", name := "isDrawer", desc := "(I)Z" } : Jvm.MethodName) prog_8_method_5_code (1 : Nat) (Option.some Jvm.ClassFile.FieldType.boolean)) ∈ lw_all := lw_g (lw_at lw_m8 60 rfl) rfl
theorem q1812 : (Jvm.Cond.methodLink "DrawerRingModel" (42 : Nat) ({ cls := "DrawerRingModel", name := "in", desc := "(III)Z" } : Jvm.MethodName)) ∈ lw_all := lw_g (lw_at lw_m8 61 rfl) rfl
theorem q1813 : (Jvm.Cond.static ({ cls := "DrawerRingModel", name := "in", desc := "(III)Z" } : Jvm.MethodName)) ∈ lw_all := lw_g (lw_at lw_m8 62 rfl) rfl
theorem q1814 : (Jvm.Cond.code ({ cls := "DrawerRingModel", name := "in", desc := "(III)Z" } : Jvm.MethodName) prog_8_method_3_code (3 : Nat) (Option.some Jvm.ClassFile.FieldType.boolean)) ∈ lw_all := lw_g (lw_at lw_m8 63 rfl) rfl
theorem q1815 : (Jvm.Cond.methodLink "DrawerRingModel" (121 : Nat) ({ cls := "DrawerRingModel", name := "fails", desc := "(I)I" } : Jvm.MethodName)) ∈ lw_all := lw_g (lw_at lw_m8 64 rfl) rfl
theorem q1816 : (Jvm.Cond.privateMethod ({ cls := "DrawerRingModel", name := "fails", desc := "(I)I" } : Jvm.MethodName)) ∈ lw_tbl := lw_at lw_m8 65 rfl
theorem q1817 : (Jvm.Cond.instanceMethod ({ cls := "DrawerRingModel", name := "fails", desc := "(I)I" } : Jvm.MethodName)) ∈ lw_all := lw_g (lw_at lw_m8 66 rfl) rfl
theorem q1818 : (Jvm.Cond.code ({ cls := "DrawerRingModel", name := "fails", desc := "(I)I" } : Jvm.MethodName) prog_8_method_4_code (2 : Nat) (Option.some Jvm.ClassFile.FieldType.int)) ∈ lw_all := lw_g (lw_at lw_m8 67 rfl) rfl
theorem q1819 : (Jvm.Cond.methodLink "DrawerRingModel" (124 : Nat) ({ cls := "DrawerRingModel", name := "loadOf", desc := "(I)I" } : Jvm.MethodName)) ∈ lw_all := lw_g (lw_at lw_m8 68 rfl) rfl
theorem q1820 : (Jvm.Cond.privateMethod ({ cls := "DrawerRingModel", name := "loadOf", desc := "(I)I" } : Jvm.MethodName)) ∈ lw_tbl := lw_at lw_m8 69 rfl
theorem q1821 : (Jvm.Cond.instanceMethod ({ cls := "DrawerRingModel", name := "loadOf", desc := "(I)I" } : Jvm.MethodName)) ∈ lw_all := lw_g (lw_at lw_m8 70 rfl) rfl
theorem q1822 : (Jvm.Cond.code ({ cls := "DrawerRingModel", name := "loadOf", desc := "(I)I" } : Jvm.MethodName) prog_8_method_8_code (4 : Nat) (Option.some Jvm.ClassFile.FieldType.int)) ∈ lw_all := lw_g (lw_at lw_m8 71 rfl) rfl
theorem q1823 : (Jvm.Cond.methodLink "DrawerRingModel" (49 : Nat) ({ cls := "DrawerRingModel", name := "of", desc := "(II)I" } : Jvm.MethodName)) ∈ lw_all := lw_g (lw_at lw_m8 72 rfl) rfl
theorem q1824 : (Jvm.Cond.privateMethod ({ cls := "DrawerRingModel", name := "of", desc := "(II)I" } : Jvm.MethodName)) ∈ lw_tbl := lw_at lw_m8 73 rfl
theorem q1825 : (Jvm.Cond.instanceMethod ({ cls := "DrawerRingModel", name := "of", desc := "(II)I" } : Jvm.MethodName)) ∈ lw_all := lw_g (lw_at lw_m8 74 rfl) rfl
theorem q1826 : (Jvm.Cond.code ({ cls := "DrawerRingModel", name := "of", desc := "(II)I" } : Jvm.MethodName) prog_8_method_7_code (3 : Nat) (Option.some Jvm.ClassFile.FieldType.int)) ∈ lw_all := lw_g (lw_at lw_m8 75 rfl) rfl
theorem q1827 : (Jvm.Cond.methodLink "DrawerRingModel" (127 : Nat) ({ cls := "DrawerRingModel", name := "comes", desc := "(III)V" } : Jvm.MethodName)) ∈ lw_all := lw_g (lw_at lw_m8 76 rfl) rfl
theorem q1828 : (Jvm.Cond.privateMethod ({ cls := "DrawerRingModel", name := "comes", desc := "(III)V" } : Jvm.MethodName)) ∈ lw_tbl := lw_at lw_m8 77 rfl
theorem q1829 : (Jvm.Cond.instanceMethod ({ cls := "DrawerRingModel", name := "comes", desc := "(III)V" } : Jvm.MethodName)) ∈ lw_all := lw_g (lw_at lw_m8 78 rfl) rfl
theorem q1830 : (Jvm.Cond.code ({ cls := "DrawerRingModel", name := "comes", desc := "(III)V" } : Jvm.MethodName) prog_8_method_14_code (5 : Nat) (Option.none : Option Jvm.ClassFile.FieldType)) ∈ lw_all := lw_g (lw_at lw_m8 79 rfl) rfl
theorem q1831 : (Jvm.Cond.methodLink "DrawerRingModel" (56 : Nat) ({ cls := "DrawerRingModel", name := "imbalance", desc := "(I)I" } : Jvm.MethodName)) ∈ lw_all := lw_g (lw_at lw_m8 80 rfl) rfl
theorem q1832 : (Jvm.Cond.privateMethod ({ cls := "DrawerRingModel", name := "imbalance", desc := "(I)I" } : Jvm.MethodName)) ∈ lw_tbl := lw_at lw_m8 81 rfl
theorem q1833 : (Jvm.Cond.instanceMethod ({ cls := "DrawerRingModel", name := "imbalance", desc := "(I)I" } : Jvm.MethodName)) ∈ lw_all := lw_g (lw_at lw_m8 82 rfl) rfl
theorem q1834 : (Jvm.Cond.code ({ cls := "DrawerRingModel", name := "imbalance", desc := "(I)I" } : Jvm.MethodName) prog_8_method_11_code (5 : Nat) (Option.some Jvm.ClassFile.FieldType.int)) ∈ lw_all := lw_g (lw_at lw_m8 83 rfl) rfl
theorem q1835 : (Jvm.Cond.methodLink "DrawerRingModel" (53 : Nat) ({ cls := "DrawerRingModel", name := "placeOf", desc := "(II)I" } : Jvm.MethodName)) ∈ lw_all := lw_g (lw_at lw_m8 84 rfl) rfl
theorem q1836 : (Jvm.Cond.static ({ cls := "DrawerRingModel", name := "placeOf", desc := "(II)I" } : Jvm.MethodName)) ∈ lw_all := lw_g (lw_at lw_m8 85 rfl) rfl
theorem q1837 : (Jvm.Cond.code ({ cls := "DrawerRingModel", name := "placeOf", desc := "(II)I" } : Jvm.MethodName) prog_8_method_10_code (2 : Nat) (Option.some Jvm.ClassFile.FieldType.int)) ∈ lw_all := lw_g (lw_at lw_m8 86 rfl) rfl
theorem q1838 : (Jvm.Cond.methodLink "DrawerRingModel" (80 : Nat) ({ cls := "DrawerRingModel", name := "goes", desc := "(I)V" } : Jvm.MethodName)) ∈ lw_all := lw_g (lw_at lw_m8 87 rfl) rfl
theorem q1839 : (Jvm.Cond.privateMethod ({ cls := "DrawerRingModel", name := "goes", desc := "(I)V" } : Jvm.MethodName)) ∈ lw_tbl := lw_at lw_m8 88 rfl
theorem q1840 : (Jvm.Cond.instanceMethod ({ cls := "DrawerRingModel", name := "goes", desc := "(I)V" } : Jvm.MethodName)) ∈ lw_all := lw_g (lw_at lw_m8 89 rfl) rfl
theorem q1841 : (Jvm.Cond.code ({ cls := "DrawerRingModel", name := "goes", desc := "(I)V" } : Jvm.MethodName) prog_8_method_15_code (3 : Nat) (Option.none : Option Jvm.ClassFile.FieldType)) ∈ lw_all := lw_g (lw_at lw_m8 90 rfl) rfl
theorem q1842 : (Jvm.Cond.methodLink "DrawerRingModel" (131 : Nat) ({ cls := "DrawerRingModel", name := "saves", desc := "()V" } : Jvm.MethodName)) ∈ lw_all := lw_g (lw_at lw_m8 91 rfl) rfl
theorem q1843 : (Jvm.Cond.privateMethod ({ cls := "DrawerRingModel", name := "saves", desc := "()V" } : Jvm.MethodName)) ∈ lw_tbl := lw_at lw_m8 92 rfl
theorem q1844 : (Jvm.Cond.instanceMethod ({ cls := "DrawerRingModel", name := "saves", desc := "()V" } : Jvm.MethodName)) ∈ lw_all := lw_g (lw_at lw_m8 93 rfl) rfl
theorem q1845 : (Jvm.Cond.code ({ cls := "DrawerRingModel", name := "saves", desc := "()V" } : Jvm.MethodName) prog_8_method_6_code (2 : Nat) (Option.none : Option Jvm.ClassFile.FieldType)) ∈ lw_all := lw_g (lw_at lw_m8 94 rfl) rfl
theorem q1847 : (Jvm.Cond.instanceMethod ({ cls := "DrawerRingModel", name := "move", desc := "(II)I" } : Jvm.MethodName)) ∈ lw_all := lw_g (lw_at lw_m8 96 rfl) rfl
theorem q1848 : (Jvm.Cond.selects "DrawerRingModel" ({ cls := "DrawerRingModel", name := "move", desc := "(II)I" } : Jvm.MethodName) ({ cls := "DrawerRingModel", name := "move", desc := "(II)I" } : Jvm.MethodName)) ∈ lw_all := lw_g (lw_at lw_m8 97 rfl) rfl
theorem q1849 : (Jvm.Cond.code ({ cls := "DrawerRingModel", name := "move", desc := "(II)I" } : Jvm.MethodName) prog_8_method_32_code (6 : Nat) (Option.some Jvm.ClassFile.FieldType.int)) ∈ lw_all := lw_g (lw_at lw_m8 98 rfl) rfl
theorem q1850 : (Jvm.Cond.methodLink "DrawerRingModel" (70 : Nat) ({ cls := "DrawerRingModel", name := "placeOfItem", desc := "(I)I" } : Jvm.MethodName)) ∈ lw_all := lw_g (lw_at lw_m8 99 rfl) rfl
theorem q1851 : (Jvm.Cond.privateMethod ({ cls := "DrawerRingModel", name := "placeOfItem", desc := "(I)I" } : Jvm.MethodName)) ∈ lw_tbl := lw_at lw_m8 100 rfl
theorem q1852 : (Jvm.Cond.instanceMethod ({ cls := "DrawerRingModel", name := "placeOfItem", desc := "(I)I" } : Jvm.MethodName)) ∈ lw_all := lw_g (lw_at lw_m8 101 rfl) rfl
theorem q1853 : (Jvm.Cond.code ({ cls := "DrawerRingModel", name := "placeOfItem", desc := "(I)I" } : Jvm.MethodName) prog_8_method_13_code (3 : Nat) (Option.some Jvm.ClassFile.FieldType.int)) ∈ lw_all := lw_g (lw_at lw_m8 102 rfl) rfl
theorem q1855 : (Jvm.Cond.instanceMethod ({ cls := "DrawerRingModel", name := "pick", desc := "(I)I" } : Jvm.MethodName)) ∈ lw_all := lw_g (lw_at lw_m8 104 rfl) rfl
theorem q1856 : (Jvm.Cond.selects "DrawerRingModel" ({ cls := "DrawerRingModel", name := "pick", desc := "(I)I" } : Jvm.MethodName) ({ cls := "DrawerRingModel", name := "pick", desc := "(I)I" } : Jvm.MethodName)) ∈ lw_all := lw_g (lw_at lw_m8 105 rfl) rfl
theorem q1857 : (Jvm.Cond.code ({ cls := "DrawerRingModel", name := "pick", desc := "(I)I" } : Jvm.MethodName) prog_8_method_33_code (3 : Nat) (Option.some Jvm.ClassFile.FieldType.int)) ∈ lw_all := lw_g (lw_at lw_m8 106 rfl) rfl
theorem q1858 : (Jvm.Cond.methodLink "DrawerRingModel" (86 : Nat) ({ cls := "DrawerRingModel", name := "reason", desc := "(I)I" } : Jvm.MethodName)) ∈ lw_all := lw_g (lw_at lw_m8 107 rfl) rfl
theorem q1859 : (Jvm.Cond.privateMethod ({ cls := "DrawerRingModel", name := "reason", desc := "(I)I" } : Jvm.MethodName)) ∈ lw_tbl := lw_at lw_m8 108 rfl
theorem q1860 : (Jvm.Cond.instanceMethod ({ cls := "DrawerRingModel", name := "reason", desc := "(I)I" } : Jvm.MethodName)) ∈ lw_all := lw_g (lw_at lw_m8 109 rfl) rfl
theorem q1861 : (Jvm.Cond.code ({ cls := "DrawerRingModel", name := "reason", desc := "(I)I" } : Jvm.MethodName) prog_8_method_20_code (3 : Nat) (Option.some Jvm.ClassFile.FieldType.int)) ∈ lw_all := lw_g (lw_at lw_m8 110 rfl) rfl
theorem q1862 : (Jvm.Cond.methodLink "DrawerRingModel" (64 : Nat) ({ cls := "DrawerRingModel", name := "wayTo", desc := "(I)I" } : Jvm.MethodName)) ∈ lw_all := lw_g (lw_at lw_m8 111 rfl) rfl
theorem q1863 : (Jvm.Cond.privateMethod ({ cls := "DrawerRingModel", name := "wayTo", desc := "(I)I" } : Jvm.MethodName)) ∈ lw_tbl := lw_at lw_m8 112 rfl
theorem q1864 : (Jvm.Cond.instanceMethod ({ cls := "DrawerRingModel", name := "wayTo", desc := "(I)I" } : Jvm.MethodName)) ∈ lw_all := lw_g (lw_at lw_m8 113 rfl) rfl
theorem q1865 : (Jvm.Cond.code ({ cls := "DrawerRingModel", name := "wayTo", desc := "(I)I" } : Jvm.MethodName) prog_8_method_17_code (6 : Nat) (Option.some Jvm.ClassFile.FieldType.int)) ∈ lw_all := lw_g (lw_at lw_m8 114 rfl) rfl
theorem q1866 : (Jvm.Cond.methodLink "DrawerRingModel" (60 : Nat) ({ cls := "DrawerRingModel", name := "isOpen", desc := "(II)Z" } : Jvm.MethodName)) ∈ lw_all := lw_g (lw_at lw_m8 115 rfl) rfl
theorem q1867 : (Jvm.Cond.privateMethod ({ cls := "DrawerRingModel", name := "isOpen", desc := "(II)Z" } : Jvm.MethodName)) ∈ lw_tbl := lw_at lw_m8 116 rfl
theorem q1868 : (Jvm.Cond.instanceMethod ({ cls := "DrawerRingModel", name := "isOpen", desc := "(II)Z" } : Jvm.MethodName)) ∈ lw_all := lw_g (lw_at lw_m8 117 rfl) rfl
theorem q1869 : (Jvm.Cond.code ({ cls := "DrawerRingModel", name := "isOpen", desc := "(II)Z" } : Jvm.MethodName) prog_8_method_16_code (5 : Nat) (Option.some Jvm.ClassFile.FieldType.boolean)) ∈ lw_all := lw_g (lw_at lw_m8 118 rfl) rfl
theorem q1870 : (Jvm.Cond.methodLink "DrawerRingModel" (89 : Nat) ({ cls := "DrawerRingModel", name := "picks", desc := "(I)I" } : Jvm.MethodName)) ∈ lw_all := lw_g (lw_at lw_m8 119 rfl) rfl
theorem q1871 : (Jvm.Cond.privateMethod ({ cls := "DrawerRingModel", name := "picks", desc := "(I)I" } : Jvm.MethodName)) ∈ lw_tbl := lw_at lw_m8 120 rfl
theorem q1872 : (Jvm.Cond.instanceMethod ({ cls := "DrawerRingModel", name := "picks", desc := "(I)I" } : Jvm.MethodName)) ∈ lw_all := lw_g (lw_at lw_m8 121 rfl) rfl
theorem q1873 : (Jvm.Cond.code ({ cls := "DrawerRingModel", name := "picks", desc := "(I)I" } : Jvm.MethodName) prog_8_method_22_code (4 : Nat) (Option.some Jvm.ClassFile.FieldType.int)) ∈ lw_all := lw_g (lw_at lw_m8 122 rfl) rfl
theorem q1874 : (Jvm.Cond.methodLink "DrawerRingModel" (73 : Nat) ({ cls := "DrawerRingModel", name := "stepsTo", desc := "(I)I" } : Jvm.MethodName)) ∈ lw_all := lw_g (lw_at lw_m8 123 rfl) rfl
theorem q1875 : (Jvm.Cond.privateMethod ({ cls := "DrawerRingModel", name := "stepsTo", desc := "(I)I" } : Jvm.MethodName)) ∈ lw_tbl := lw_at lw_m8 124 rfl
theorem q1876 : (Jvm.Cond.instanceMethod ({ cls := "DrawerRingModel", name := "stepsTo", desc := "(I)I" } : Jvm.MethodName)) ∈ lw_all := lw_g (lw_at lw_m8 125 rfl) rfl
theorem q1877 : (Jvm.Cond.code ({ cls := "DrawerRingModel", name := "stepsTo", desc := "(I)I" } : Jvm.MethodName) prog_8_method_21_code (2 : Nat) (Option.some Jvm.ClassFile.FieldType.int)) ∈ lw_all := lw_g (lw_at lw_m8 126 rfl) rfl
theorem q1878 : (Jvm.Cond.methodLink "DrawerRingModel" (67 : Nat) ({ cls := "DrawerRingModel", name := "size", desc := "(I)I" } : Jvm.MethodName)) ∈ lw_all := lw_g (lw_at lw_m8 127 rfl) rfl
theorem q1879 : (Jvm.Cond.static ({ cls := "DrawerRingModel", name := "size", desc := "(I)I" } : Jvm.MethodName)) ∈ lw_all := lw_g (lw_at lw_m8 128 rfl) rfl
theorem q1880 : (Jvm.Cond.code ({ cls := "DrawerRingModel", name := "size", desc := "(I)I" } : Jvm.MethodName) prog_8_method_18_code (1 : Nat) (Option.some Jvm.ClassFile.FieldType.int)) ∈ lw_all := lw_g (lw_at lw_m8 129 rfl) rfl
theorem q1881 : (Jvm.Cond.methodLink "DrawerRingModel" (76 : Nat) ({ cls := "DrawerRingModel", name := "turns", desc := "(I)V" } : Jvm.MethodName)) ∈ lw_all := lw_g (lw_at lw_m8 130 rfl) rfl
theorem q1882 : (Jvm.Cond.privateMethod ({ cls := "DrawerRingModel", name := "turns", desc := "(I)V" } : Jvm.MethodName)) ∈ lw_tbl := lw_at lw_m8 131 rfl
theorem q1883 : (Jvm.Cond.instanceMethod ({ cls := "DrawerRingModel", name := "turns", desc := "(I)V" } : Jvm.MethodName)) ∈ lw_all := lw_g (lw_at lw_m8 132 rfl) rfl
theorem q1884 : (Jvm.Cond.code ({ cls := "DrawerRingModel", name := "turns", desc := "(I)V" } : Jvm.MethodName) prog_8_method_19_code (3 : Nat) (Option.none : Option Jvm.ClassFile.FieldType)) ∈ lw_all := lw_g (lw_at lw_m8 133 rfl) rfl
theorem q1886 : (Jvm.Cond.instanceMethod ({ cls := "DrawerRingModel", name := "turn", desc := "(I)I" } : Jvm.MethodName)) ∈ lw_all := lw_g (lw_at lw_m8 135 rfl) rfl
theorem q1887 : (Jvm.Cond.selects "DrawerRingModel" ({ cls := "DrawerRingModel", name := "turn", desc := "(I)I" } : Jvm.MethodName) ({ cls := "DrawerRingModel", name := "turn", desc := "(I)I" } : Jvm.MethodName)) ∈ lw_all := lw_g (lw_at lw_m8 136 rfl) rfl
theorem q1888 : (Jvm.Cond.code ({ cls := "DrawerRingModel", name := "turn", desc := "(I)I" } : Jvm.MethodName) prog_8_method_34_code (3 : Nat) (Option.some Jvm.ClassFile.FieldType.int)) ∈ lw_all := lw_g (lw_at lw_m8 137 rfl) rfl
theorem q1890 : (Jvm.Cond.instanceMethod ({ cls := "DrawerRingModel", name := "jam", desc := "(IZ)I" } : Jvm.MethodName)) ∈ lw_all := lw_g (lw_at lw_m8 139 rfl) rfl
theorem q1891 : (Jvm.Cond.selects "DrawerRingModel" ({ cls := "DrawerRingModel", name := "jam", desc := "(IZ)I" } : Jvm.MethodName) ({ cls := "DrawerRingModel", name := "jam", desc := "(IZ)I" } : Jvm.MethodName)) ∈ lw_all := lw_g (lw_at lw_m8 140 rfl) rfl
theorem q1892 : (Jvm.Cond.code ({ cls := "DrawerRingModel", name := "jam", desc := "(IZ)I" } : Jvm.MethodName) prog_8_method_35_code (4 : Nat) (Option.some Jvm.ClassFile.FieldType.int)) ∈ lw_all := lw_g (lw_at lw_m8 141 rfl) rfl
theorem q1894 : (Jvm.Cond.instanceMethod ({ cls := "DrawerRingModel", name := "set", desc := "(II)I" } : Jvm.MethodName)) ∈ lw_all := lw_g (lw_at lw_m8 143 rfl) rfl
theorem q1895 : (Jvm.Cond.selects "DrawerRingModel" ({ cls := "DrawerRingModel", name := "set", desc := "(II)I" } : Jvm.MethodName) ({ cls := "DrawerRingModel", name := "set", desc := "(II)I" } : Jvm.MethodName)) ∈ lw_all := lw_g (lw_at lw_m8 144 rfl) rfl
theorem q1896 : (Jvm.Cond.code ({ cls := "DrawerRingModel", name := "set", desc := "(II)I" } : Jvm.MethodName) prog_8_method_37_code (5 : Nat) (Option.some Jvm.ClassFile.FieldType.int)) ∈ lw_all := lw_g (lw_at lw_m8 145 rfl) rfl
theorem q1897 : (Jvm.Cond.methodLink "DrawerRingModel" (134 : Nat) ({ cls := "DrawerRingModel", name := "greatestLoad", desc := "()I" } : Jvm.MethodName)) ∈ lw_all := lw_g (lw_at lw_m8 146 rfl) rfl
theorem q1898 : (Jvm.Cond.privateMethod ({ cls := "DrawerRingModel", name := "greatestLoad", desc := "()I" } : Jvm.MethodName)) ∈ lw_tbl := lw_at lw_m8 147 rfl
theorem q1899 : (Jvm.Cond.instanceMethod ({ cls := "DrawerRingModel", name := "greatestLoad", desc := "()I" } : Jvm.MethodName)) ∈ lw_all := lw_g (lw_at lw_m8 148 rfl) rfl
theorem q1900 : (Jvm.Cond.code ({ cls := "DrawerRingModel", name := "greatestLoad", desc := "()I" } : Jvm.MethodName) prog_8_method_36_code (3 : Nat) (Option.some Jvm.ClassFile.FieldType.int)) ∈ lw_all := lw_g (lw_at lw_m8 149 rfl) rfl
theorem q1902 : (Jvm.Cond.instanceMethod ({ cls := "DrawerRingModel", name := "append", desc := "(I)I" } : Jvm.MethodName)) ∈ lw_all := lw_g (lw_at lw_m8 151 rfl) rfl
theorem q1903 : (Jvm.Cond.selects "DrawerRingModel" ({ cls := "DrawerRingModel", name := "append", desc := "(I)I" } : Jvm.MethodName) ({ cls := "DrawerRingModel", name := "append", desc := "(I)I" } : Jvm.MethodName)) ∈ lw_all := lw_g (lw_at lw_m8 152 rfl) rfl
theorem q1904 : (Jvm.Cond.code ({ cls := "DrawerRingModel", name := "append", desc := "(I)I" } : Jvm.MethodName) prog_8_method_38_code (2 : Nat) (Option.some Jvm.ClassFile.FieldType.int)) ∈ lw_all := lw_g (lw_at lw_m8 153 rfl) rfl
theorem q1906 : (Jvm.Cond.instanceMethod ({ cls := "DrawerRingModel", name := "clearBuffer", desc := "()I" } : Jvm.MethodName)) ∈ lw_all := lw_g (lw_at lw_m8 155 rfl) rfl
theorem q1907 : (Jvm.Cond.selects "DrawerRingModel" ({ cls := "DrawerRingModel", name := "clearBuffer", desc := "()I" } : Jvm.MethodName) ({ cls := "DrawerRingModel", name := "clearBuffer", desc := "()I" } : Jvm.MethodName)) ∈ lw_all := lw_g (lw_at lw_m8 156 rfl) rfl
theorem q1908 : (Jvm.Cond.code ({ cls := "DrawerRingModel", name := "clearBuffer", desc := "()I" } : Jvm.MethodName) prog_8_method_39_code (2 : Nat) (Option.some Jvm.ClassFile.FieldType.int)) ∈ lw_all := lw_g (lw_at lw_m8 157 rfl) rfl
theorem q1910 : (Jvm.Cond.instanceMethod ({ cls := "DrawerRingModel", name := "firstError", desc := "()I" } : Jvm.MethodName)) ∈ lw_all := lw_g (lw_at lw_m8 159 rfl) rfl
theorem q1911 : (Jvm.Cond.selects "DrawerRingModel" ({ cls := "DrawerRingModel", name := "firstError", desc := "()I" } : Jvm.MethodName) ({ cls := "DrawerRingModel", name := "firstError", desc := "()I" } : Jvm.MethodName)) ∈ lw_all := lw_g (lw_at lw_m8 160 rfl) rfl
theorem q1912 : (Jvm.Cond.code ({ cls := "DrawerRingModel", name := "firstError", desc := "()I" } : Jvm.MethodName) prog_8_method_44_code (1 : Nat) (Option.some Jvm.ClassFile.FieldType.int)) ∈ lw_all := lw_g (lw_at lw_m8 161 rfl) rfl
theorem q1913 : (Jvm.Cond.methodLink "DrawerRingModel" (156 : Nat) ({ cls := "DrawerRingModel", name := "readsAll", desc := "()V" } : Jvm.MethodName)) ∈ lw_all := lw_g (lw_at lw_m8 162 rfl) rfl
theorem q1914 : (Jvm.Cond.privateMethod ({ cls := "DrawerRingModel", name := "readsAll", desc := "()V" } : Jvm.MethodName)) ∈ lw_tbl := lw_at lw_m8 163 rfl
theorem q1915 : (Jvm.Cond.instanceMethod ({ cls := "DrawerRingModel", name := "readsAll", desc := "()V" } : Jvm.MethodName)) ∈ lw_all := lw_g (lw_at lw_m8 164 rfl) rfl
theorem q1916 : (Jvm.Cond.code ({ cls := "DrawerRingModel", name := "readsAll", desc := "()V" } : Jvm.MethodName) prog_8_method_43_code (1 : Nat) (Option.none : Option Jvm.ClassFile.FieldType)) ∈ lw_all := lw_g (lw_at lw_m8 165 rfl) rfl
theorem q1917 : (Jvm.Cond.methodLink "DrawerRingModel" (153 : Nat) ({ cls := "DrawerRingModel", name := "readsNumber", desc := "()V" } : Jvm.MethodName)) ∈ lw_all := lw_g (lw_at lw_m8 166 rfl) rfl
theorem q1918 : (Jvm.Cond.privateMethod ({ cls := "DrawerRingModel", name := "readsNumber", desc := "()V" } : Jvm.MethodName)) ∈ lw_tbl := lw_at lw_m8 167 rfl
theorem q1919 : (Jvm.Cond.instanceMethod ({ cls := "DrawerRingModel", name := "readsNumber", desc := "()V" } : Jvm.MethodName)) ∈ lw_all := lw_g (lw_at lw_m8 168 rfl) rfl
theorem q1920 : (Jvm.Cond.code ({ cls := "DrawerRingModel", name := "readsNumber", desc := "()V" } : Jvm.MethodName) prog_8_method_42_code (3 : Nat) (Option.none : Option Jvm.ClassFile.FieldType)) ∈ lw_all := lw_g (lw_at lw_m8 169 rfl) rfl
theorem q1921 : (Jvm.Cond.methodLink "DrawerRingModel" (143 : Nat) ({ cls := "DrawerRingModel", name := "sign", desc := "()I" } : Jvm.MethodName)) ∈ lw_all := lw_g (lw_at lw_m8 170 rfl) rfl
theorem q1922 : (Jvm.Cond.privateMethod ({ cls := "DrawerRingModel", name := "sign", desc := "()I" } : Jvm.MethodName)) ∈ lw_tbl := lw_at lw_m8 171 rfl
theorem q1923 : (Jvm.Cond.instanceMethod ({ cls := "DrawerRingModel", name := "sign", desc := "()I" } : Jvm.MethodName)) ∈ lw_all := lw_g (lw_at lw_m8 172 rfl) rfl
theorem q1924 : (Jvm.Cond.code ({ cls := "DrawerRingModel", name := "sign", desc := "()I" } : Jvm.MethodName) prog_8_method_40_code (1 : Nat) (Option.some Jvm.ClassFile.FieldType.int)) ∈ lw_all := lw_g (lw_at lw_m8 173 rfl) rfl
theorem q1925 : (Jvm.Cond.methodLink "DrawerRingModel" (150 : Nat) ({ cls := "DrawerRingModel", name := "isTold", desc := "(I)Z" } : Jvm.MethodName)) ∈ lw_all := lw_g (lw_at lw_m8 174 rfl) rfl
theorem q1926 : (Jvm.Cond.privateMethod ({ cls := "DrawerRingModel", name := "isTold", desc := "(I)Z" } : Jvm.MethodName)) ∈ lw_tbl := lw_at lw_m8 175 rfl
theorem q1927 : (Jvm.Cond.instanceMethod ({ cls := "DrawerRingModel", name := "isTold", desc := "(I)Z" } : Jvm.MethodName)) ∈ lw_all := lw_g (lw_at lw_m8 176 rfl) rfl
theorem q1928 : (Jvm.Cond.code ({ cls := "DrawerRingModel", name := "isTold", desc := "(I)Z" } : Jvm.MethodName) prog_8_method_41_code (4 : Nat) (Option.some Jvm.ClassFile.FieldType.boolean)) ∈ lw_all := lw_g (lw_at lw_m8 177 rfl) rfl
theorem q1930 : (Jvm.Cond.instanceMethod ({ cls := "DrawerRingModel", name := "pickAll", desc := "()I" } : Jvm.MethodName)) ∈ lw_all := lw_g (lw_at lw_m8 179 rfl) rfl
theorem q1931 : (Jvm.Cond.selects "DrawerRingModel" ({ cls := "DrawerRingModel", name := "pickAll", desc := "()I" } : Jvm.MethodName) ({ cls := "DrawerRingModel", name := "pickAll", desc := "()I" } : Jvm.MethodName)) ∈ lw_all := lw_g (lw_at lw_m8 180 rfl) rfl
theorem q1932 : (Jvm.Cond.code ({ cls := "DrawerRingModel", name := "pickAll", desc := "()I" } : Jvm.MethodName) prog_8_method_45_code (1 : Nat) (Option.some Jvm.ClassFile.FieldType.int)) ∈ lw_all := lw_g (lw_at lw_m8 181 rfl) rfl
theorem q1933 : (Jvm.Cond.methodLink "DrawerRingModel" (159 : Nat) ({ cls := "DrawerRingModel", name := "picksBatch", desc := "(I)I" } : Jvm.MethodName)) ∈ lw_all := lw_g (lw_at lw_m8 182 rfl) rfl
theorem q1934 : (Jvm.Cond.privateMethod ({ cls := "DrawerRingModel", name := "picksBatch", desc := "(I)I" } : Jvm.MethodName)) ∈ lw_tbl := lw_at lw_m8 183 rfl
theorem q1935 : (Jvm.Cond.instanceMethod ({ cls := "DrawerRingModel", name := "picksBatch", desc := "(I)I" } : Jvm.MethodName)) ∈ lw_all := lw_g (lw_at lw_m8 184 rfl) rfl
theorem q1936 : (Jvm.Cond.code ({ cls := "DrawerRingModel", name := "picksBatch", desc := "(I)I" } : Jvm.MethodName) prog_8_method_30_code (2 : Nat) (Option.some Jvm.ClassFile.FieldType.int)) ∈ lw_all := lw_g (lw_at lw_m8 185 rfl) rfl
theorem q1937 : (Jvm.Cond.methodLink "DrawerRingModel" (111 : Nat) ({ cls := "DrawerRingModel", name := "picksNearest", desc := "()I" } : Jvm.MethodName)) ∈ lw_all := lw_g (lw_at lw_m8 186 rfl) rfl
theorem q1938 : (Jvm.Cond.privateMethod ({ cls := "DrawerRingModel", name := "picksNearest", desc := "()I" } : Jvm.MethodName)) ∈ lw_tbl := lw_at lw_m8 187 rfl
theorem q1939 : (Jvm.Cond.instanceMethod ({ cls := "DrawerRingModel", name := "picksNearest", desc := "()I" } : Jvm.MethodName)) ∈ lw_all := lw_g (lw_at lw_m8 188 rfl) rfl
theorem q1940 : (Jvm.Cond.code ({ cls := "DrawerRingModel", name := "picksNearest", desc := "()I" } : Jvm.MethodName) prog_8_method_25_code (3 : Nat) (Option.some Jvm.ClassFile.FieldType.int)) ∈ lw_all := lw_g (lw_at lw_m8 189 rfl) rfl
theorem q1941 : (Jvm.Cond.methodLink "DrawerRingModel" (92 : Nat) ({ cls := "DrawerRingModel", name := "nearest", desc := "()I" } : Jvm.MethodName)) ∈ lw_all := lw_g (lw_at lw_m8 190 rfl) rfl
theorem q1942 : (Jvm.Cond.privateMethod ({ cls := "DrawerRingModel", name := "nearest", desc := "()I" } : Jvm.MethodName)) ∈ lw_tbl := lw_at lw_m8 191 rfl
theorem q1943 : (Jvm.Cond.instanceMethod ({ cls := "DrawerRingModel", name := "nearest", desc := "()I" } : Jvm.MethodName)) ∈ lw_all := lw_g (lw_at lw_m8 192 rfl) rfl
theorem q1944 : (Jvm.Cond.code ({ cls := "DrawerRingModel", name := "nearest", desc := "()I" } : Jvm.MethodName) prog_8_method_24_code (4 : Nat) (Option.some Jvm.ClassFile.FieldType.int)) ∈ lw_all := lw_g (lw_at lw_m8 193 rfl) rfl
theorem q1945 : (Jvm.Cond.methodLink "DrawerRingModel" (114 : Nat) ({ cls := "DrawerRingModel", name := "laysBestOrder", desc := "()V" } : Jvm.MethodName)) ∈ lw_all := lw_g (lw_at lw_m8 194 rfl) rfl
theorem q1946 : (Jvm.Cond.privateMethod ({ cls := "DrawerRingModel", name := "laysBestOrder", desc := "()V" } : Jvm.MethodName)) ∈ lw_tbl := lw_at lw_m8 195 rfl
theorem q1947 : (Jvm.Cond.instanceMethod ({ cls := "DrawerRingModel", name := "laysBestOrder", desc := "()V" } : Jvm.MethodName)) ∈ lw_all := lw_g (lw_at lw_m8 196 rfl) rfl
theorem q1948 : (Jvm.Cond.code ({ cls := "DrawerRingModel", name := "laysBestOrder", desc := "()V" } : Jvm.MethodName) prog_8_method_29_code (6 : Nat) (Option.none : Option Jvm.ClassFile.FieldType)) ∈ lw_all := lw_g (lw_at lw_m8 197 rfl) rfl
theorem q1949 : (Jvm.Cond.methodLink "DrawerRingModel" (100 : Nat) ({ cls := "DrawerRingModel", name := "firstOrder", desc := "()V" } : Jvm.MethodName)) ∈ lw_all := lw_g (lw_at lw_m8 198 rfl) rfl
theorem q1950 : (Jvm.Cond.privateMethod ({ cls := "DrawerRingModel", name := "firstOrder", desc := "()V" } : Jvm.MethodName)) ∈ lw_tbl := lw_at lw_m8 199 rfl
theorem q1951 : (Jvm.Cond.instanceMethod ({ cls := "DrawerRingModel", name := "firstOrder", desc := "()V" } : Jvm.MethodName)) ∈ lw_all := lw_g (lw_at lw_m8 200 rfl) rfl
theorem q1952 : (Jvm.Cond.code ({ cls := "DrawerRingModel", name := "firstOrder", desc := "()V" } : Jvm.MethodName) prog_8_method_26_code (2 : Nat) (Option.none : Option Jvm.ClassFile.FieldType)) ∈ lw_all := lw_g (lw_at lw_m8 201 rfl) rfl
theorem q1953 : (Jvm.Cond.methodLink "DrawerRingModel" (103 : Nat) ({ cls := "DrawerRingModel", name := "picksBy", desc := "([I)I" } : Jvm.MethodName)) ∈ lw_all := lw_g (lw_at lw_m8 202 rfl) rfl
theorem q1954 : (Jvm.Cond.privateMethod ({ cls := "DrawerRingModel", name := "picksBy", desc := "([I)I" } : Jvm.MethodName)) ∈ lw_tbl := lw_at lw_m8 203 rfl
theorem q1955 : (Jvm.Cond.instanceMethod ({ cls := "DrawerRingModel", name := "picksBy", desc := "([I)I" } : Jvm.MethodName)) ∈ lw_all := lw_g (lw_at lw_m8 204 rfl) rfl
theorem q1956 : (Jvm.Cond.code ({ cls := "DrawerRingModel", name := "picksBy", desc := "([I)I" } : Jvm.MethodName) prog_8_method_23_code (3 : Nat) (Option.some Jvm.ClassFile.FieldType.int)) ∈ lw_all := lw_g (lw_at lw_m8 205 rfl) rfl
theorem q1957 : (Jvm.Cond.methodLink "DrawerRingModel" (107 : Nat) ({ cls := "DrawerRingModel", name := "hasNextOrder", desc := "()Z" } : Jvm.MethodName)) ∈ lw_all := lw_g (lw_at lw_m8 206 rfl) rfl
theorem q1958 : (Jvm.Cond.privateMethod ({ cls := "DrawerRingModel", name := "hasNextOrder", desc := "()Z" } : Jvm.MethodName)) ∈ lw_tbl := lw_at lw_m8 207 rfl
theorem q1959 : (Jvm.Cond.instanceMethod ({ cls := "DrawerRingModel", name := "hasNextOrder", desc := "()Z" } : Jvm.MethodName)) ∈ lw_all := lw_g (lw_at lw_m8 208 rfl) rfl
theorem q1960 : (Jvm.Cond.code ({ cls := "DrawerRingModel", name := "hasNextOrder", desc := "()Z" } : Jvm.MethodName) prog_8_method_28_code (4 : Nat) (Option.some Jvm.ClassFile.FieldType.boolean)) ∈ lw_all := lw_g (lw_at lw_m8 209 rfl) rfl
theorem q1961 : (Jvm.Cond.methodLink "DrawerRingModel" (96 : Nat) ({ cls := "DrawerRingModel", name := "swaps", desc := "(II)V" } : Jvm.MethodName)) ∈ lw_all := lw_g (lw_at lw_m8 210 rfl) rfl
theorem q1962 : (Jvm.Cond.privateMethod ({ cls := "DrawerRingModel", name := "swaps", desc := "(II)V" } : Jvm.MethodName)) ∈ lw_tbl := lw_at lw_m8 211 rfl
theorem q1963 : (Jvm.Cond.instanceMethod ({ cls := "DrawerRingModel", name := "swaps", desc := "(II)V" } : Jvm.MethodName)) ∈ lw_all := lw_g (lw_at lw_m8 212 rfl) rfl
theorem q1964 : (Jvm.Cond.code ({ cls := "DrawerRingModel", name := "swaps", desc := "(II)V" } : Jvm.MethodName) prog_8_method_27_code (4 : Nat) (Option.none : Option Jvm.ClassFile.FieldType)) ∈ lw_all := lw_g (lw_at lw_m8 213 rfl) rfl
theorem q1966 : (Jvm.Cond.instanceMethod ({ cls := "DrawerRingModel", name := "undo", desc := "()I" } : Jvm.MethodName)) ∈ lw_all := lw_g (lw_at lw_m8 215 rfl) rfl
theorem q1967 : (Jvm.Cond.selects "DrawerRingModel" ({ cls := "DrawerRingModel", name := "undo", desc := "()I" } : Jvm.MethodName) ({ cls := "DrawerRingModel", name := "undo", desc := "()I" } : Jvm.MethodName)) ∈ lw_all := lw_g (lw_at lw_m8 216 rfl) rfl
theorem q1968 : (Jvm.Cond.code ({ cls := "DrawerRingModel", name := "undo", desc := "()I" } : Jvm.MethodName) prog_8_method_46_code (2 : Nat) (Option.some Jvm.ClassFile.FieldType.int)) ∈ lw_all := lw_g (lw_at lw_m8 217 rfl) rfl
theorem q1970 : (Jvm.Cond.instanceMethod ({ cls := "DrawerRingModel", name := "drawer", desc := "(II)I" } : Jvm.MethodName)) ∈ lw_all := lw_g (lw_at lw_m8 219 rfl) rfl
theorem q1971 : (Jvm.Cond.selects "DrawerRingModel" ({ cls := "DrawerRingModel", name := "drawer", desc := "(II)I" } : Jvm.MethodName) ({ cls := "DrawerRingModel", name := "drawer", desc := "(II)I" } : Jvm.MethodName)) ∈ lw_all := lw_g (lw_at lw_m8 220 rfl) rfl
theorem q1972 : (Jvm.Cond.code ({ cls := "DrawerRingModel", name := "drawer", desc := "(II)I" } : Jvm.MethodName) prog_8_method_48_code (3 : Nat) (Option.some Jvm.ClassFile.FieldType.int)) ∈ lw_all := lw_g (lw_at lw_m8 221 rfl) rfl
theorem q1973 : (Jvm.Cond.methodLink "DrawerRingModel" (165 : Nat) ({ cls := "DrawerRingModel", name := "tellsDrawer", desc := "(II)I" } : Jvm.MethodName)) ∈ lw_all := lw_g (lw_at lw_m8 222 rfl) rfl
theorem q1974 : (Jvm.Cond.privateMethod ({ cls := "DrawerRingModel", name := "tellsDrawer", desc := "(II)I" } : Jvm.MethodName)) ∈ lw_tbl := lw_at lw_m8 223 rfl
theorem q1975 : (Jvm.Cond.instanceMethod ({ cls := "DrawerRingModel", name := "tellsDrawer", desc := "(II)I" } : Jvm.MethodName)) ∈ lw_all := lw_g (lw_at lw_m8 224 rfl) rfl
theorem q1976 : (Jvm.Cond.code ({ cls := "DrawerRingModel", name := "tellsDrawer", desc := "(II)I" } : Jvm.MethodName) prog_8_method_47_code (3 : Nat) (Option.some Jvm.ClassFile.FieldType.int)) ∈ lw_all := lw_g (lw_at lw_m8 225 rfl) rfl
theorem q1977 : (Jvm.Cond.methodLink "DrawerRingModel" (162 : Nat) ({ cls := "DrawerRingModel", name := "itemsOf", desc := "(I)I" } : Jvm.MethodName)) ∈ lw_all := lw_g (lw_at lw_m8 226 rfl) rfl
theorem q1978 : (Jvm.Cond.privateMethod ({ cls := "DrawerRingModel", name := "itemsOf", desc := "(I)I" } : Jvm.MethodName)) ∈ lw_tbl := lw_at lw_m8 227 rfl
theorem q1979 : (Jvm.Cond.instanceMethod ({ cls := "DrawerRingModel", name := "itemsOf", desc := "(I)I" } : Jvm.MethodName)) ∈ lw_all := lw_g (lw_at lw_m8 228 rfl) rfl
theorem q1980 : (Jvm.Cond.code ({ cls := "DrawerRingModel", name := "itemsOf", desc := "(I)I" } : Jvm.MethodName) prog_8_method_9_code (4 : Nat) (Option.some Jvm.ClassFile.FieldType.int)) ∈ lw_all := lw_g (lw_at lw_m8 229 rfl) rfl
theorem q1982 : (Jvm.Cond.instanceMethod ({ cls := "DrawerRingModel", name := "item", desc := "(II)I" } : Jvm.MethodName)) ∈ lw_all := lw_g (lw_at lw_m8 231 rfl) rfl
theorem q1983 : (Jvm.Cond.selects "DrawerRingModel" ({ cls := "DrawerRingModel", name := "item", desc := "(II)I" } : Jvm.MethodName) ({ cls := "DrawerRingModel", name := "item", desc := "(II)I" } : Jvm.MethodName)) ∈ lw_all := lw_g (lw_at lw_m8 232 rfl) rfl
theorem q1984 : (Jvm.Cond.code ({ cls := "DrawerRingModel", name := "item", desc := "(II)I" } : Jvm.MethodName) prog_8_method_49_code (4 : Nat) (Option.some Jvm.ClassFile.FieldType.int)) ∈ lw_all := lw_g (lw_at lw_m8 233 rfl) rfl
theorem q1986 : (Jvm.Cond.instanceMethod ({ cls := "DrawerRingModel", name := "count", desc := "(I)I" } : Jvm.MethodName)) ∈ lw_all := lw_g (lw_at lw_m8 235 rfl) rfl
theorem q1987 : (Jvm.Cond.selects "DrawerRingModel" ({ cls := "DrawerRingModel", name := "count", desc := "(I)I" } : Jvm.MethodName) ({ cls := "DrawerRingModel", name := "count", desc := "(I)I" } : Jvm.MethodName)) ∈ lw_all := lw_g (lw_at lw_m8 236 rfl) rfl
theorem q1988 : (Jvm.Cond.code ({ cls := "DrawerRingModel", name := "count", desc := "(I)I" } : Jvm.MethodName) prog_8_method_53_code (2 : Nat) (Option.some Jvm.ClassFile.FieldType.int)) ∈ lw_all := lw_g (lw_at lw_m8 237 rfl) rfl
theorem q1989 : (Jvm.Cond.methodLink "DrawerRingModel" (177 : Nat) ({ cls := "DrawerRingModel", name := "counts", desc := "(I)I" } : Jvm.MethodName)) ∈ lw_all := lw_g (lw_at lw_m8 238 rfl) rfl
theorem q1990 : (Jvm.Cond.privateMethod ({ cls := "DrawerRingModel", name := "counts", desc := "(I)I" } : Jvm.MethodName)) ∈ lw_tbl := lw_at lw_m8 239 rfl
theorem q1991 : (Jvm.Cond.instanceMethod ({ cls := "DrawerRingModel", name := "counts", desc := "(I)I" } : Jvm.MethodName)) ∈ lw_all := lw_g (lw_at lw_m9 0 rfl) rfl
theorem q1992 : (Jvm.Cond.code ({ cls := "DrawerRingModel", name := "counts", desc := "(I)I" } : Jvm.MethodName) prog_8_method_52_code (2 : Nat) (Option.some Jvm.ClassFile.FieldType.int)) ∈ lw_all := lw_g (lw_at lw_m9 1 rfl) rfl
theorem q1993 : (Jvm.Cond.methodLink "DrawerRingModel" (168 : Nat) ({ cls := "DrawerRingModel", name := "loadOfAll", desc := "()I" } : Jvm.MethodName)) ∈ lw_all := lw_g (lw_at lw_m9 2 rfl) rfl
theorem q1994 : (Jvm.Cond.privateMethod ({ cls := "DrawerRingModel", name := "loadOfAll", desc := "()I" } : Jvm.MethodName)) ∈ lw_tbl := lw_at lw_m9 3 rfl
theorem q1995 : (Jvm.Cond.instanceMethod ({ cls := "DrawerRingModel", name := "loadOfAll", desc := "()I" } : Jvm.MethodName)) ∈ lw_all := lw_g (lw_at lw_m9 4 rfl) rfl
theorem q1996 : (Jvm.Cond.code ({ cls := "DrawerRingModel", name := "loadOfAll", desc := "()I" } : Jvm.MethodName) prog_8_method_50_code (3 : Nat) (Option.some Jvm.ClassFile.FieldType.int)) ∈ lw_all := lw_g (lw_at lw_m9 5 rfl) rfl
theorem q1997 : (Jvm.Cond.methodLink "DrawerRingModel" (171 : Nat) ({ cls := "DrawerRingModel", name := "greatest", desc := "()I" } : Jvm.MethodName)) ∈ lw_all := lw_g (lw_at lw_m9 6 rfl) rfl
theorem q1998 : (Jvm.Cond.privateMethod ({ cls := "DrawerRingModel", name := "greatest", desc := "()I" } : Jvm.MethodName)) ∈ lw_tbl := lw_at lw_m9 7 rfl
theorem q1999 : (Jvm.Cond.instanceMethod ({ cls := "DrawerRingModel", name := "greatest", desc := "()I" } : Jvm.MethodName)) ∈ lw_all := lw_g (lw_at lw_m9 8 rfl) rfl
theorem q2000 : (Jvm.Cond.code ({ cls := "DrawerRingModel", name := "greatest", desc := "()I" } : Jvm.MethodName) prog_8_method_12_code (3 : Nat) (Option.some Jvm.ClassFile.FieldType.int)) ∈ lw_all := lw_g (lw_at lw_m9 9 rfl) rfl
theorem q2001 : (Jvm.Cond.methodLink "DrawerRingModel" (174 : Nat) ({ cls := "DrawerRingModel", name := "jammed", desc := "()I" } : Jvm.MethodName)) ∈ lw_all := lw_g (lw_at lw_m9 10 rfl) rfl
theorem q2002 : (Jvm.Cond.privateMethod ({ cls := "DrawerRingModel", name := "jammed", desc := "()I" } : Jvm.MethodName)) ∈ lw_tbl := lw_at lw_m9 11 rfl
theorem q2003 : (Jvm.Cond.instanceMethod ({ cls := "DrawerRingModel", name := "jammed", desc := "()I" } : Jvm.MethodName)) ∈ lw_all := lw_g (lw_at lw_m9 12 rfl) rfl
theorem q2004 : (Jvm.Cond.code ({ cls := "DrawerRingModel", name := "jammed", desc := "()I" } : Jvm.MethodName) prog_8_method_51_code (3 : Nat) (Option.some Jvm.ClassFile.FieldType.int)) ∈ lw_all := lw_g (lw_at lw_m9 13 rfl) rfl
theorem q2006 : (Jvm.Cond.instanceMethod ({ cls := "DrawerRingModel", name := "setting", desc := "(I)I" } : Jvm.MethodName)) ∈ lw_all := lw_g (lw_at lw_m9 15 rfl) rfl
theorem q2007 : (Jvm.Cond.selects "DrawerRingModel" ({ cls := "DrawerRingModel", name := "setting", desc := "(I)I" } : Jvm.MethodName) ({ cls := "DrawerRingModel", name := "setting", desc := "(I)I" } : Jvm.MethodName)) ∈ lw_all := lw_g (lw_at lw_m9 16 rfl) rfl
theorem q2008 : (Jvm.Cond.code ({ cls := "DrawerRingModel", name := "setting", desc := "(I)I" } : Jvm.MethodName) prog_8_method_54_code (2 : Nat) (Option.some Jvm.ClassFile.FieldType.int)) ∈ lw_all := lw_g (lw_at lw_m9 17 rfl) rfl
theorem q2010 : (Jvm.Cond.instanceMethod ({ cls := "DrawerRingModel", name := "refusal", desc := "(I)I" } : Jvm.MethodName)) ∈ lw_all := lw_g (lw_at lw_m9 19 rfl) rfl
theorem q2011 : (Jvm.Cond.selects "DrawerRingModel" ({ cls := "DrawerRingModel", name := "refusal", desc := "(I)I" } : Jvm.MethodName) ({ cls := "DrawerRingModel", name := "refusal", desc := "(I)I" } : Jvm.MethodName)) ∈ lw_all := lw_g (lw_at lw_m9 20 rfl) rfl
theorem q2012 : (Jvm.Cond.code ({ cls := "DrawerRingModel", name := "refusal", desc := "(I)I" } : Jvm.MethodName) prog_8_method_55_code (2 : Nat) (Option.some Jvm.ClassFile.FieldType.int)) ∈ lw_all := lw_g (lw_at lw_m9 21 rfl) rfl
theorem q2014 : (Jvm.Cond.instanceMethod ({ cls := "DrawerRingModel", name := "way", desc := "(I)I" } : Jvm.MethodName)) ∈ lw_all := lw_g (lw_at lw_m9 23 rfl) rfl
theorem q2015 : (Jvm.Cond.selects "DrawerRingModel" ({ cls := "DrawerRingModel", name := "way", desc := "(I)I" } : Jvm.MethodName) ({ cls := "DrawerRingModel", name := "way", desc := "(I)I" } : Jvm.MethodName)) ∈ lw_all := lw_g (lw_at lw_m9 24 rfl) rfl
theorem q2016 : (Jvm.Cond.code ({ cls := "DrawerRingModel", name := "way", desc := "(I)I" } : Jvm.MethodName) prog_8_method_56_code (2 : Nat) (Option.some Jvm.ClassFile.FieldType.int)) ∈ lw_all := lw_g (lw_at lw_m9 25 rfl) rfl
theorem q2018 : (Jvm.Cond.instanceMethod ({ cls := "DrawerRingModel", name := "ifPut", desc := "(II)I" } : Jvm.MethodName)) ∈ lw_all := lw_g (lw_at lw_m9 27 rfl) rfl
theorem q2019 : (Jvm.Cond.selects "DrawerRingModel" ({ cls := "DrawerRingModel", name := "ifPut", desc := "(II)I" } : Jvm.MethodName) ({ cls := "DrawerRingModel", name := "ifPut", desc := "(II)I" } : Jvm.MethodName)) ∈ lw_all := lw_g (lw_at lw_m9 28 rfl) rfl
theorem q2020 : (Jvm.Cond.code ({ cls := "DrawerRingModel", name := "ifPut", desc := "(II)I" } : Jvm.MethodName) prog_8_method_58_code (3 : Nat) (Option.some Jvm.ClassFile.FieldType.int)) ∈ lw_all := lw_g (lw_at lw_m9 29 rfl) rfl
theorem q2021 : (Jvm.Cond.methodLink "DrawerRingModel" (180 : Nat) ({ cls := "DrawerRingModel", name := "greatestWith", desc := "(II)I" } : Jvm.MethodName)) ∈ lw_all := lw_g (lw_at lw_m9 30 rfl) rfl
theorem q2022 : (Jvm.Cond.privateMethod ({ cls := "DrawerRingModel", name := "greatestWith", desc := "(II)I" } : Jvm.MethodName)) ∈ lw_tbl := lw_at lw_m9 31 rfl
theorem q2023 : (Jvm.Cond.instanceMethod ({ cls := "DrawerRingModel", name := "greatestWith", desc := "(II)I" } : Jvm.MethodName)) ∈ lw_all := lw_g (lw_at lw_m9 32 rfl) rfl
theorem q2024 : (Jvm.Cond.code ({ cls := "DrawerRingModel", name := "greatestWith", desc := "(II)I" } : Jvm.MethodName) prog_8_method_57_code (9 : Nat) (Option.some Jvm.ClassFile.FieldType.int)) ∈ lw_all := lw_g (lw_at lw_m9 33 rfl) rfl
theorem q2026 : (Jvm.Cond.instanceMethod ({ cls := "DrawerRingModel", name := "bestDrawer", desc := "(I)I" } : Jvm.MethodName)) ∈ lw_all := lw_g (lw_at lw_m9 35 rfl) rfl
theorem q2027 : (Jvm.Cond.selects "DrawerRingModel" ({ cls := "DrawerRingModel", name := "bestDrawer", desc := "(I)I" } : Jvm.MethodName) ({ cls := "DrawerRingModel", name := "bestDrawer", desc := "(I)I" } : Jvm.MethodName)) ∈ lw_all := lw_g (lw_at lw_m9 36 rfl) rfl
theorem q2028 : (Jvm.Cond.code ({ cls := "DrawerRingModel", name := "bestDrawer", desc := "(I)I" } : Jvm.MethodName) prog_8_method_60_code (2 : Nat) (Option.some Jvm.ClassFile.FieldType.int)) ∈ lw_all := lw_g (lw_at lw_m9 37 rfl) rfl
theorem q2029 : (Jvm.Cond.methodLink "DrawerRingModel" (183 : Nat) ({ cls := "DrawerRingModel", name := "drawerFor", desc := "(I)I" } : Jvm.MethodName)) ∈ lw_all := lw_g (lw_at lw_m9 38 rfl) rfl
theorem q2030 : (Jvm.Cond.privateMethod ({ cls := "DrawerRingModel", name := "drawerFor", desc := "(I)I" } : Jvm.MethodName)) ∈ lw_tbl := lw_at lw_m9 39 rfl
theorem q2031 : (Jvm.Cond.instanceMethod ({ cls := "DrawerRingModel", name := "drawerFor", desc := "(I)I" } : Jvm.MethodName)) ∈ lw_all := lw_g (lw_at lw_m9 40 rfl) rfl
theorem q2032 : (Jvm.Cond.code ({ cls := "DrawerRingModel", name := "drawerFor", desc := "(I)I" } : Jvm.MethodName) prog_8_method_59_code (7 : Nat) (Option.some Jvm.ClassFile.FieldType.int)) ∈ lw_all := lw_g (lw_at lw_m9 41 rfl) rfl
theorem q2034 : (Jvm.Cond.instanceMethod ({ cls := "DrawerRingModel", name := "ifPicked", desc := "(II)I" } : Jvm.MethodName)) ∈ lw_all := lw_g (lw_at lw_m9 43 rfl) rfl
theorem q2035 : (Jvm.Cond.selects "DrawerRingModel" ({ cls := "DrawerRingModel", name := "ifPicked", desc := "(II)I" } : Jvm.MethodName) ({ cls := "DrawerRingModel", name := "ifPicked", desc := "(II)I" } : Jvm.MethodName)) ∈ lw_all := lw_g (lw_at lw_m9 44 rfl) rfl
theorem q2036 : (Jvm.Cond.code ({ cls := "DrawerRingModel", name := "ifPicked", desc := "(II)I" } : Jvm.MethodName) prog_8_method_62_code (3 : Nat) (Option.some Jvm.ClassFile.FieldType.int)) ∈ lw_all := lw_g (lw_at lw_m9 45 rfl) rfl
theorem q2037 : (Jvm.Cond.methodLink "DrawerRingModel" (186 : Nat) ({ cls := "DrawerRingModel", name := "picked", desc := "(II)I" } : Jvm.MethodName)) ∈ lw_all := lw_g (lw_at lw_m9 46 rfl) rfl
theorem q2038 : (Jvm.Cond.privateMethod ({ cls := "DrawerRingModel", name := "picked", desc := "(II)I" } : Jvm.MethodName)) ∈ lw_tbl := lw_at lw_m9 47 rfl
theorem q2039 : (Jvm.Cond.instanceMethod ({ cls := "DrawerRingModel", name := "picked", desc := "(II)I" } : Jvm.MethodName)) ∈ lw_all := lw_g (lw_at lw_m9 48 rfl) rfl
theorem q2040 : (Jvm.Cond.code ({ cls := "DrawerRingModel", name := "picked", desc := "(II)I" } : Jvm.MethodName) prog_8_method_61_code (6 : Nat) (Option.some Jvm.ClassFile.FieldType.int)) ∈ lw_all := lw_g (lw_at lw_m9 49 rfl) rfl
theorem q2042 : (Jvm.Cond.instanceMethod ({ cls := "DrawerRingModel", name := "evenness", desc := "()D" } : Jvm.MethodName)) ∈ lw_all := lw_g (lw_at lw_m9 51 rfl) rfl
theorem q2043 : (Jvm.Cond.selects "DrawerRingModel" ({ cls := "DrawerRingModel", name := "evenness", desc := "()D" } : Jvm.MethodName) ({ cls := "DrawerRingModel", name := "evenness", desc := "()D" } : Jvm.MethodName)) ∈ lw_all := lw_g (lw_at lw_m9 52 rfl) rfl
theorem q2044 : (Jvm.Cond.code ({ cls := "DrawerRingModel", name := "evenness", desc := "()D" } : Jvm.MethodName) prog_8_method_64_code (1 : Nat) (Option.some Jvm.ClassFile.FieldType.double)) ∈ lw_all := lw_g (lw_at lw_m9 53 rfl) rfl
theorem q2045 : (Jvm.Cond.methodLink "DrawerRingModel" (189 : Nat) ({ cls := "DrawerRingModel", name := "even", desc := "()D" } : Jvm.MethodName)) ∈ lw_all := lw_g (lw_at lw_m9 54 rfl) rfl
theorem q2046 : (Jvm.Cond.privateMethod ({ cls := "DrawerRingModel", name := "even", desc := "()D" } : Jvm.MethodName)) ∈ lw_tbl := lw_at lw_m9 55 rfl
theorem q2047 : (Jvm.Cond.instanceMethod ({ cls := "DrawerRingModel", name := "even", desc := "()D" } : Jvm.MethodName)) ∈ lw_all := lw_g (lw_at lw_m9 56 rfl) rfl
theorem q2048 : (Jvm.Cond.code ({ cls := "DrawerRingModel", name := "even", desc := "()D" } : Jvm.MethodName) prog_8_method_63_code (4 : Nat) (Option.some Jvm.ClassFile.FieldType.double)) ∈ lw_all := lw_g (lw_at lw_m9 57 rfl) rfl
theorem q2050 : (Jvm.Cond.instanceMethod ({ cls := "DrawerRingModel", name := "digest", desc := "()J" } : Jvm.MethodName)) ∈ lw_all := lw_g (lw_at lw_m9 59 rfl) rfl
theorem q2051 : (Jvm.Cond.selects "DrawerRingModel" ({ cls := "DrawerRingModel", name := "digest", desc := "()J" } : Jvm.MethodName) ({ cls := "DrawerRingModel", name := "digest", desc := "()J" } : Jvm.MethodName)) ∈ lw_all := lw_g (lw_at lw_m9 60 rfl) rfl
theorem q2052 : (Jvm.Cond.code ({ cls := "DrawerRingModel", name := "digest", desc := "()J" } : Jvm.MethodName) prog_8_method_66_code (3 : Nat) (Option.some Jvm.ClassFile.FieldType.long)) ∈ lw_all := lw_g (lw_at lw_m9 61 rfl) rfl
theorem q2053 : (Jvm.Cond.constantLong "DrawerRingModel" (199 : Nat) (2963 : Int64)) ∈ lw_all := lw_g (lw_at lw_m9 62 rfl) rfl
theorem q2054 : (Jvm.Cond.methodLink "DrawerRingModel" (201 : Nat) ({ cls := "DrawerRingModel", name := "hashes", desc := "(J)V" } : Jvm.MethodName)) ∈ lw_all := lw_g (lw_at lw_m9 63 rfl) rfl
theorem q2055 : (Jvm.Cond.privateMethod ({ cls := "DrawerRingModel", name := "hashes", desc := "(J)V" } : Jvm.MethodName)) ∈ lw_tbl := lw_at lw_m9 64 rfl
theorem q2056 : (Jvm.Cond.instanceMethod ({ cls := "DrawerRingModel", name := "hashes", desc := "(J)V" } : Jvm.MethodName)) ∈ lw_all := lw_g (lw_at lw_m9 65 rfl) rfl
theorem q2057 : (Jvm.Cond.code ({ cls := "DrawerRingModel", name := "hashes", desc := "(J)V" } : Jvm.MethodName) prog_8_method_65_code (3 : Nat) (Option.none : Option Jvm.ClassFile.FieldType)) ∈ lw_all := lw_g (lw_at lw_m9 66 rfl) rfl
theorem q2058 : (Jvm.Cond.constantLong "DrawerRingModel" (193 : Nat) (31 : Int64)) ∈ lw_all := lw_g (lw_at lw_m9 67 rfl) rfl
theorem q2059 : (Jvm.Cond.methodLink "DrawerRingModel" (205 : Nat) ({ cls := "java/lang/Double", name := "doubleToLongBits", desc := "(D)J" } : Jvm.MethodName)) ∈ lw_all := lw_g (lw_at lw_m9 68 rfl) rfl
theorem q2086 : (Jvm.Cond.castable "DrawerRingModel" "java/lang/Object") ∈ lw_tbl := lw_at lw_m9 95 rfl
theorem in_X3 : ∀ w ∈ wsX30, w ∈ lw_all := lw_in wsX30 [1768, 1770, 1772, 1774, 1776, 1778, 1780, 1782, 1784, 1786, 1788, 1790, 1792, 1794, 1796, 1798] (by decide +kernel) (by decide +kernel)

