/-! DrawerRing -/
set_option maxRecDepth 100000
def RX1 : String := "DrawerRing"
def TX1 : u_T := fun k => match k with
  | 0 => ("DrawerRing", "now", "LDrawerRing$Ring;", true)
  | 1 => ("DrawerRing", "tried", "LDrawerRing$Ring;", true)
  | 2 => ("DrawerRing", "saved", "Ljava/util/ArrayList;", true)
  | 3 => ("DrawerRing", "text", "Ljava/lang/StringBuilder;", true)
  | _ => ("DrawerRing", "hash", "J", false)
def tyX1 : Nat → FieldType := fun k => match k with
  | 0 => .object "DrawerRing$Ring"
  | 1 => .object "DrawerRing$Ring"
  | 2 => .object "java/util/ArrayList"
  | 3 => .object "java/lang/StringBuilder"
  | _ => .long
abbrev wsX10 : List Cond := u_ws RX1 TX1 5
theorem nmX1 : ∀ a, a < 5 → ∀ b, b < 5 → a ≠ b → (TX1 a).2.1 ≠ (TX1 b).2.1 := by decide +kernel
theorem tyX1_ok : ∀ k, k < 5 → parseFieldDescriptor (TX1 k).2.2.1 = some (tyX1 k) := by decide +kernel
abbrev cX1_init : ByteArray := prog_1_method_2_code
def yX1_init : MethodName := ⟨RX1, "<init>", "()V"⟩
def dkwX1_init_2 : List UInt8 := [181, 0, 31, 177]
abbrev dktX1_init_2 : List UInt8 := dkwX1_init_2 ++ []
def dkwX1_init_1 : List UInt8 := [181, 0, 16, 42, 187, 0, 19, 89, 183, 0, 21, 181, 0, 22, 42, 187, 0, 26, 89, 16, 60, 183, 0, 28]
abbrev dktX1_init_1 : List UInt8 := dkwX1_init_1 ++ dktX1_init_2
def dkwX1_init_0 : List UInt8 := [42, 183, 0, 1, 42, 187, 0, 7, 89, 183, 0, 9, 181, 0, 10, 42, 187, 0, 7, 89, 183, 0, 9]
abbrev dktX1_init_0 : List UInt8 := dkwX1_init_0 ++ dktX1_init_1
theorem dksX1_init_0 : cX1_init.data.toList.drop 0 = dktX1_init_0 := by decide +kernel
theorem dksX1_init_1 : cX1_init.data.toList.drop 23 = dktX1_init_1 := dk_seg dksX1_init_0 23 rfl rfl
theorem dksX1_init_2 : cX1_init.data.toList.drop 47 = dktX1_init_2 := dk_seg dksX1_init_1 24 rfl rfl
theorem dX1_init_0 : decode cX1_init 0 = .ok (.aload_n 0, 1) := dk_42 (dk_at dksX1_init_0 0 rfl rfl)
theorem dX1_init_1 : decode cX1_init 1 = .ok (.invokespecial 1, 3) := dk_183 0 1 (dk_at dksX1_init_0 1 rfl rfl)
theorem dX1_init_4 : decode cX1_init 4 = .ok (.aload_n 0, 1) := dk_42 (dk_at dksX1_init_0 4 rfl rfl)
theorem dX1_init_5 : decode cX1_init 5 = .ok (.new 7, 3) := dk_187 0 7 (dk_at dksX1_init_0 5 rfl rfl)
theorem dX1_init_8 : decode cX1_init 8 = .ok (.dup, 1) := dk_89 (dk_at dksX1_init_0 8 rfl rfl)
theorem dX1_init_9 : decode cX1_init 9 = .ok (.invokespecial 9, 3) := dk_183 0 9 (dk_at dksX1_init_0 9 rfl rfl)
theorem dX1_init_12 : decode cX1_init 12 = .ok (.putfield 10, 3) := dk_181 0 10 (dk_at dksX1_init_0 12 rfl rfl)
theorem dX1_init_15 : decode cX1_init 15 = .ok (.aload_n 0, 1) := dk_42 (dk_at dksX1_init_0 15 rfl rfl)
theorem dX1_init_16 : decode cX1_init 16 = .ok (.new 7, 3) := dk_187 0 7 (dk_at dksX1_init_0 16 rfl rfl)
theorem dX1_init_19 : decode cX1_init 19 = .ok (.dup, 1) := dk_89 (dk_at dksX1_init_0 19 rfl rfl)
theorem dX1_init_20 : decode cX1_init 20 = .ok (.invokespecial 9, 3) := dk_183 0 9 (dk_at dksX1_init_0 20 rfl rfl)
theorem dX1_init_23 : decode cX1_init 23 = .ok (.putfield 16, 3) := dk_181 0 16 (dk_at dksX1_init_1 0 rfl rfl)
theorem dX1_init_26 : decode cX1_init 26 = .ok (.aload_n 0, 1) := dk_42 (dk_at dksX1_init_1 3 rfl rfl)
theorem dX1_init_27 : decode cX1_init 27 = .ok (.new 19, 3) := dk_187 0 19 (dk_at dksX1_init_1 4 rfl rfl)
theorem dX1_init_30 : decode cX1_init 30 = .ok (.dup, 1) := dk_89 (dk_at dksX1_init_1 7 rfl rfl)
theorem dX1_init_31 : decode cX1_init 31 = .ok (.invokespecial 21, 3) := dk_183 0 21 (dk_at dksX1_init_1 8 rfl rfl)
theorem dX1_init_34 : decode cX1_init 34 = .ok (.putfield 22, 3) := dk_181 0 22 (dk_at dksX1_init_1 11 rfl rfl)
theorem dX1_init_37 : decode cX1_init 37 = .ok (.aload_n 0, 1) := dk_42 (dk_at dksX1_init_1 14 rfl rfl)
theorem dX1_init_38 : decode cX1_init 38 = .ok (.new 26, 3) := dk_187 0 26 (dk_at dksX1_init_1 15 rfl rfl)
theorem dX1_init_41 : decode cX1_init 41 = .ok (.dup, 1) := dk_89 (dk_at dksX1_init_1 18 rfl rfl)
theorem dX1_init_42 : decode cX1_init 42 = .ok (.bipush 60, 2) := dk_16 60 (dk_at dksX1_init_1 19 rfl rfl)
theorem dX1_init_44 : decode cX1_init 44 = .ok (.invokespecial 28, 3) := dk_183 0 28 (dk_at dksX1_init_1 21 rfl rfl)
theorem dX1_init_47 : decode cX1_init 47 = .ok (.putfield 31, 3) := dk_181 0 31 (dk_at dksX1_init_2 0 rfl rfl)
theorem dX1_init_50 : decode cX1_init 50 = .ok (.return_, 1) := dk_177 (dk_at dksX1_init_2 3 rfl rfl)
abbrev cX1_clearBuffer : ByteArray := prog_1_method_19_code
def yX1_clearBuffer : MethodName := ⟨RX1, "clearBuffer", "()I"⟩
def dkwX1_clearBuffer_0 : List UInt8 := [42, 180, 0, 31, 182, 0, 157, 60, 42, 180, 0, 31, 3, 182, 0, 164, 27, 172]
abbrev dktX1_clearBuffer_0 : List UInt8 := dkwX1_clearBuffer_0 ++ []
theorem dksX1_clearBuffer_0 : cX1_clearBuffer.data.toList.drop 0 = dktX1_clearBuffer_0 := by decide +kernel
theorem dX1_clearBuffer_0 : decode cX1_clearBuffer 0 = .ok (.aload_n 0, 1) := dk_42 (dk_at dksX1_clearBuffer_0 0 rfl rfl)
theorem dX1_clearBuffer_1 : decode cX1_clearBuffer 1 = .ok (.getfield 31, 3) := dk_180 0 31 (dk_at dksX1_clearBuffer_0 1 rfl rfl)
theorem dX1_clearBuffer_4 : decode cX1_clearBuffer 4 = .ok (.invokevirtual 157, 3) := dk_182 0 157 (dk_at dksX1_clearBuffer_0 4 rfl rfl)
theorem dX1_clearBuffer_7 : decode cX1_clearBuffer 7 = .ok (.istore_n 1, 1) := dk_60 (dk_at dksX1_clearBuffer_0 7 rfl rfl)
theorem dX1_clearBuffer_8 : decode cX1_clearBuffer 8 = .ok (.aload_n 0, 1) := dk_42 (dk_at dksX1_clearBuffer_0 8 rfl rfl)
theorem dX1_clearBuffer_9 : decode cX1_clearBuffer 9 = .ok (.getfield 31, 3) := dk_180 0 31 (dk_at dksX1_clearBuffer_0 9 rfl rfl)
theorem dX1_clearBuffer_12 : decode cX1_clearBuffer 12 = .ok (.iconst 0, 1) := dk_3 (dk_at dksX1_clearBuffer_0 12 rfl rfl)
theorem dX1_clearBuffer_13 : decode cX1_clearBuffer 13 = .ok (.invokevirtual 164, 3) := dk_182 0 164 (dk_at dksX1_clearBuffer_0 13 rfl rfl)
theorem dX1_clearBuffer_16 : decode cX1_clearBuffer 16 = .ok (.iload_n 1, 1) := dk_27 (dk_at dksX1_clearBuffer_0 16 rfl rfl)
theorem dX1_clearBuffer_17 : decode cX1_clearBuffer 17 = .ok (.ireturn, 1) := dk_172 (dk_at dksX1_clearBuffer_0 17 rfl rfl)
abbrev cX1_firstError : ByteArray := prog_1_method_20_code
def yX1_firstError : MethodName := ⟨RX1, "firstError", "()I"⟩
def dkwX1_firstError_1 : List UInt8 := [167, 0, 7, 43, 180, 0, 175, 172]
abbrev dktX1_firstError_1 : List UInt8 := dkwX1_firstError_1 ++ []
def dkwX1_firstError_0 : List UInt8 := [187, 0, 167, 89, 42, 183, 0, 169, 76, 43, 182, 0, 172, 153, 0, 13, 42, 180, 0, 31, 182, 0, 157]
abbrev dktX1_firstError_0 : List UInt8 := dkwX1_firstError_0 ++ dktX1_firstError_1
theorem dksX1_firstError_0 : cX1_firstError.data.toList.drop 0 = dktX1_firstError_0 := by decide +kernel
theorem dksX1_firstError_1 : cX1_firstError.data.toList.drop 23 = dktX1_firstError_1 := dk_seg dksX1_firstError_0 23 rfl rfl
theorem dX1_firstError_0 : decode cX1_firstError 0 = .ok (.new 167, 3) := dk_187 0 167 (dk_at dksX1_firstError_0 0 rfl rfl)
theorem dX1_firstError_3 : decode cX1_firstError 3 = .ok (.dup, 1) := dk_89 (dk_at dksX1_firstError_0 3 rfl rfl)
theorem dX1_firstError_4 : decode cX1_firstError 4 = .ok (.aload_n 0, 1) := dk_42 (dk_at dksX1_firstError_0 4 rfl rfl)
theorem dX1_firstError_5 : decode cX1_firstError 5 = .ok (.invokespecial 169, 3) := dk_183 0 169 (dk_at dksX1_firstError_0 5 rfl rfl)
theorem dX1_firstError_8 : decode cX1_firstError 8 = .ok (.astore_n 1, 1) := dk_76 (dk_at dksX1_firstError_0 8 rfl rfl)
theorem dX1_firstError_9 : decode cX1_firstError 9 = .ok (.aload_n 1, 1) := dk_43 (dk_at dksX1_firstError_0 9 rfl rfl)
theorem dX1_firstError_10 : decode cX1_firstError 10 = .ok (.invokevirtual 172, 3) := dk_182 0 172 (dk_at dksX1_firstError_0 10 rfl rfl)
theorem dX1_firstError_13 : decode cX1_firstError 13 = .ok (.ifCond .eq 13, 3) := dk_153 0 13 (dk_at dksX1_firstError_0 13 rfl rfl)
theorem dX1_firstError_16 : decode cX1_firstError 16 = .ok (.aload_n 0, 1) := dk_42 (dk_at dksX1_firstError_0 16 rfl rfl)
theorem dX1_firstError_17 : decode cX1_firstError 17 = .ok (.getfield 31, 3) := dk_180 0 31 (dk_at dksX1_firstError_0 17 rfl rfl)
theorem dX1_firstError_20 : decode cX1_firstError 20 = .ok (.invokevirtual 157, 3) := dk_182 0 157 (dk_at dksX1_firstError_0 20 rfl rfl)
theorem dX1_firstError_23 : decode cX1_firstError 23 = .ok (.goto 7, 3) := dk_167 0 7 (dk_at dksX1_firstError_1 0 rfl rfl)
theorem dX1_firstError_26 : decode cX1_firstError 26 = .ok (.aload_n 1, 1) := dk_43 (dk_at dksX1_firstError_1 3 rfl rfl)
theorem dX1_firstError_27 : decode cX1_firstError 27 = .ok (.getfield 175, 3) := dk_180 0 175 (dk_at dksX1_firstError_1 4 rfl rfl)
theorem dX1_firstError_30 : decode cX1_firstError 30 = .ok (.ireturn, 1) := dk_172 (dk_at dksX1_firstError_1 7 rfl rfl)
abbrev cX1_in : ByteArray := prog_1_method_1_code
def yX1_in : MethodName := ⟨RX1, "in", "(III)Z"⟩
def dkwX1_in_0 : List UInt8 := [26, 27, 161, 0, 12, 26, 28, 163, 0, 7, 4, 167, 0, 4, 3, 172]
abbrev dktX1_in_0 : List UInt8 := dkwX1_in_0 ++ []
theorem dksX1_in_0 : cX1_in.data.toList.drop 0 = dktX1_in_0 := by decide +kernel
theorem dX1_in_0 : decode cX1_in 0 = .ok (.iload_n 0, 1) := dk_26 (dk_at dksX1_in_0 0 rfl rfl)
theorem dX1_in_1 : decode cX1_in 1 = .ok (.iload_n 1, 1) := dk_27 (dk_at dksX1_in_0 1 rfl rfl)
theorem dX1_in_2 : decode cX1_in 2 = .ok (.if_icmp .lt 12, 3) := dk_161 0 12 (dk_at dksX1_in_0 2 rfl rfl)
theorem dX1_in_5 : decode cX1_in 5 = .ok (.iload_n 0, 1) := dk_26 (dk_at dksX1_in_0 5 rfl rfl)
theorem dX1_in_6 : decode cX1_in 6 = .ok (.iload_n 2, 1) := dk_28 (dk_at dksX1_in_0 6 rfl rfl)
theorem dX1_in_7 : decode cX1_in 7 = .ok (.if_icmp .gt 7, 3) := dk_163 0 7 (dk_at dksX1_in_0 7 rfl rfl)
theorem dX1_in_10 : decode cX1_in 10 = .ok (.iconst 1, 1) := dk_4 (dk_at dksX1_in_0 10 rfl rfl)
theorem dX1_in_11 : decode cX1_in 11 = .ok (.goto 4, 3) := dk_167 0 4 (dk_at dksX1_in_0 11 rfl rfl)
theorem dX1_in_14 : decode cX1_in 14 = .ok (.iconst 0, 1) := dk_3 (dk_at dksX1_in_0 14 rfl rfl)
theorem dX1_in_15 : decode cX1_in 15 = .ok (.ireturn, 1) := dk_172 (dk_at dksX1_in_0 15 rfl rfl)
abbrev cX1_refusal : ByteArray := prog_1_method_32_code
def yX1_refusal : MethodName := ⟨RX1, "refusal", "(I)I"⟩
def dkwX1_refusal_0 : List UInt8 := [42, 180, 0, 10, 27, 182, 0, 125, 172]
abbrev dktX1_refusal_0 : List UInt8 := dkwX1_refusal_0 ++ []
theorem dksX1_refusal_0 : cX1_refusal.data.toList.drop 0 = dktX1_refusal_0 := by decide +kernel
theorem dX1_refusal_0 : decode cX1_refusal 0 = .ok (.aload_n 0, 1) := dk_42 (dk_at dksX1_refusal_0 0 rfl rfl)
theorem dX1_refusal_1 : decode cX1_refusal 1 = .ok (.getfield 10, 3) := dk_180 0 10 (dk_at dksX1_refusal_0 1 rfl rfl)
theorem dX1_refusal_4 : decode cX1_refusal 4 = .ok (.iload_n 1, 1) := dk_27 (dk_at dksX1_refusal_0 4 rfl rfl)
theorem dX1_refusal_5 : decode cX1_refusal 5 = .ok (.invokevirtual 125, 3) := dk_182 0 125 (dk_at dksX1_refusal_0 5 rfl rfl)
theorem dX1_refusal_8 : decode cX1_refusal 8 = .ok (.ireturn, 1) := dk_172 (dk_at dksX1_refusal_0 8 rfl rfl)
abbrev cX1_evenness : ByteArray := prog_1_method_41_code
def yX1_evenness : MethodName := ⟨RX1, "evenness", "()D"⟩
theorem dX1_evenness_0 : decode cX1_evenness 0 = .ok (.aload_n 0, 1) := by decide +kernel
theorem dX1_evenness_1 : decode cX1_evenness 1 = .ok (.invokevirtual 244, 3) := by decide +kernel
theorem dX1_evenness_4 : decode cX1_evenness 4 = .ok (.dreturn, 1) := by decide +kernel
abbrev cX1_evenTold : ByteArray := prog_1_method_40_code
def yX1_evenTold : MethodName := ⟨RX1, "evenTold", "()D"⟩
def dkwX1_evenTold_2 : List UInt8 := [167, 255, 234, 42, 182, 0, 154, 154, 0, 7, 15, 167, 0, 11, 27, 135, 42, 182, 0, 154, 135, 111, 175]
abbrev dktX1_evenTold_2 : List UInt8 := dkwX1_evenTold_2 ++ []
def dkwX1_evenTold_1 : List UInt8 := [21, 4, 29, 162, 0, 22, 44, 21, 4, 46, 54, 5, 27, 21, 5, 184, 0, 241, 60, 132, 4, 1]
abbrev dktX1_evenTold_1 : List UInt8 := dkwX1_evenTold_1 ++ dktX1_evenTold_2
def dkwX1_evenTold_0 : List UInt8 := [42, 180, 0, 10, 180, 0, 64, 3, 46, 60, 42, 180, 0, 10, 180, 0, 64, 77, 44, 190, 62, 3, 54, 4]
abbrev dktX1_evenTold_0 : List UInt8 := dkwX1_evenTold_0 ++ dktX1_evenTold_1
theorem dksX1_evenTold_0 : cX1_evenTold.data.toList.drop 0 = dktX1_evenTold_0 := by decide +kernel
theorem dksX1_evenTold_1 : cX1_evenTold.data.toList.drop 24 = dktX1_evenTold_1 := dk_seg dksX1_evenTold_0 24 rfl rfl
theorem dksX1_evenTold_2 : cX1_evenTold.data.toList.drop 46 = dktX1_evenTold_2 := dk_seg dksX1_evenTold_1 22 rfl rfl
theorem dX1_evenTold_0 : decode cX1_evenTold 0 = .ok (.aload_n 0, 1) := dk_42 (dk_at dksX1_evenTold_0 0 rfl rfl)
theorem dX1_evenTold_1 : decode cX1_evenTold 1 = .ok (.getfield 10, 3) := dk_180 0 10 (dk_at dksX1_evenTold_0 1 rfl rfl)
theorem dX1_evenTold_4 : decode cX1_evenTold 4 = .ok (.getfield 64, 3) := dk_180 0 64 (dk_at dksX1_evenTold_0 4 rfl rfl)
theorem dX1_evenTold_7 : decode cX1_evenTold 7 = .ok (.iconst 0, 1) := dk_3 (dk_at dksX1_evenTold_0 7 rfl rfl)
theorem dX1_evenTold_8 : decode cX1_evenTold 8 = .ok (.iaload, 1) := dk_46 (dk_at dksX1_evenTold_0 8 rfl rfl)
theorem dX1_evenTold_9 : decode cX1_evenTold 9 = .ok (.istore_n 1, 1) := dk_60 (dk_at dksX1_evenTold_0 9 rfl rfl)
theorem dX1_evenTold_10 : decode cX1_evenTold 10 = .ok (.aload_n 0, 1) := dk_42 (dk_at dksX1_evenTold_0 10 rfl rfl)
theorem dX1_evenTold_11 : decode cX1_evenTold 11 = .ok (.getfield 10, 3) := dk_180 0 10 (dk_at dksX1_evenTold_0 11 rfl rfl)
theorem dX1_evenTold_14 : decode cX1_evenTold 14 = .ok (.getfield 64, 3) := dk_180 0 64 (dk_at dksX1_evenTold_0 14 rfl rfl)
theorem dX1_evenTold_17 : decode cX1_evenTold 17 = .ok (.astore_n 2, 1) := dk_77 (dk_at dksX1_evenTold_0 17 rfl rfl)
theorem dX1_evenTold_18 : decode cX1_evenTold 18 = .ok (.aload_n 2, 1) := dk_44 (dk_at dksX1_evenTold_0 18 rfl rfl)
theorem dX1_evenTold_19 : decode cX1_evenTold 19 = .ok (.arraylength, 1) := dk_190 (dk_at dksX1_evenTold_0 19 rfl rfl)
theorem dX1_evenTold_20 : decode cX1_evenTold 20 = .ok (.istore_n 3, 1) := dk_62 (dk_at dksX1_evenTold_0 20 rfl rfl)
theorem dX1_evenTold_21 : decode cX1_evenTold 21 = .ok (.iconst 0, 1) := dk_3 (dk_at dksX1_evenTold_0 21 rfl rfl)
theorem dX1_evenTold_22 : decode cX1_evenTold 22 = .ok (.istore 4, 2) := dk_54 4 (dk_at dksX1_evenTold_0 22 rfl rfl)
theorem dX1_evenTold_24 : decode cX1_evenTold 24 = .ok (.iload 4, 2) := dk_21 4 (dk_at dksX1_evenTold_1 0 rfl rfl)
theorem dX1_evenTold_26 : decode cX1_evenTold 26 = .ok (.iload_n 3, 1) := dk_29 (dk_at dksX1_evenTold_1 2 rfl rfl)
theorem dX1_evenTold_27 : decode cX1_evenTold 27 = .ok (.if_icmp .ge 22, 3) := dk_162 0 22 (dk_at dksX1_evenTold_1 3 rfl rfl)
theorem dX1_evenTold_30 : decode cX1_evenTold 30 = .ok (.aload_n 2, 1) := dk_44 (dk_at dksX1_evenTold_1 6 rfl rfl)
theorem dX1_evenTold_31 : decode cX1_evenTold 31 = .ok (.iload 4, 2) := dk_21 4 (dk_at dksX1_evenTold_1 7 rfl rfl)
theorem dX1_evenTold_33 : decode cX1_evenTold 33 = .ok (.iaload, 1) := dk_46 (dk_at dksX1_evenTold_1 9 rfl rfl)
theorem dX1_evenTold_34 : decode cX1_evenTold 34 = .ok (.istore 5, 2) := dk_54 5 (dk_at dksX1_evenTold_1 10 rfl rfl)
theorem dX1_evenTold_36 : decode cX1_evenTold 36 = .ok (.iload_n 1, 1) := dk_27 (dk_at dksX1_evenTold_1 12 rfl rfl)
theorem dX1_evenTold_37 : decode cX1_evenTold 37 = .ok (.iload 5, 2) := dk_21 5 (dk_at dksX1_evenTold_1 13 rfl rfl)
theorem dX1_evenTold_39 : decode cX1_evenTold 39 = .ok (.invokestatic 241, 3) := dk_184 0 241 (dk_at dksX1_evenTold_1 15 rfl rfl)
theorem dX1_evenTold_42 : decode cX1_evenTold 42 = .ok (.istore_n 1, 1) := dk_60 (dk_at dksX1_evenTold_1 18 rfl rfl)
theorem dX1_evenTold_43 : decode cX1_evenTold 43 = .ok (.iinc 4 1, 3) := dk_132 4 1 (dk_at dksX1_evenTold_1 19 rfl rfl)
theorem dX1_evenTold_46 : decode cX1_evenTold 46 = .ok (.goto (-22), 3) := dk_167 255 234 (dk_at dksX1_evenTold_2 0 rfl rfl)
theorem dX1_evenTold_49 : decode cX1_evenTold 49 = .ok (.aload_n 0, 1) := dk_42 (dk_at dksX1_evenTold_2 3 rfl rfl)
theorem dX1_evenTold_50 : decode cX1_evenTold 50 = .ok (.invokevirtual 154, 3) := dk_182 0 154 (dk_at dksX1_evenTold_2 4 rfl rfl)
theorem dX1_evenTold_53 : decode cX1_evenTold 53 = .ok (.ifCond .ne 7, 3) := dk_154 0 7 (dk_at dksX1_evenTold_2 7 rfl rfl)
theorem dX1_evenTold_56 : decode cX1_evenTold 56 = .ok (.dconst 1, 1) := dk_15 (dk_at dksX1_evenTold_2 10 rfl rfl)
theorem dX1_evenTold_57 : decode cX1_evenTold 57 = .ok (.goto 11, 3) := dk_167 0 11 (dk_at dksX1_evenTold_2 11 rfl rfl)
theorem dX1_evenTold_60 : decode cX1_evenTold 60 = .ok (.iload_n 1, 1) := dk_27 (dk_at dksX1_evenTold_2 14 rfl rfl)
theorem dX1_evenTold_61 : decode cX1_evenTold 61 = .ok (.i2d, 1) := dk_135 (dk_at dksX1_evenTold_2 15 rfl rfl)
theorem dX1_evenTold_62 : decode cX1_evenTold 62 = .ok (.aload_n 0, 1) := dk_42 (dk_at dksX1_evenTold_2 16 rfl rfl)
theorem dX1_evenTold_63 : decode cX1_evenTold 63 = .ok (.invokevirtual 154, 3) := dk_182 0 154 (dk_at dksX1_evenTold_2 17 rfl rfl)
theorem dX1_evenTold_66 : decode cX1_evenTold 66 = .ok (.i2d, 1) := dk_135 (dk_at dksX1_evenTold_2 20 rfl rfl)
theorem dX1_evenTold_67 : decode cX1_evenTold 67 = .ok (.ddiv, 1) := dk_111 (dk_at dksX1_evenTold_2 21 rfl rfl)
theorem dX1_evenTold_68 : decode cX1_evenTold 68 = .ok (.dreturn, 1) := dk_175 (dk_at dksX1_evenTold_2 22 rfl rfl)
abbrev cX1_greatestLoad : ByteArray := prog_1_method_16_code
def yX1_greatestLoad : MethodName := ⟨RX1, "greatestLoad", "()I"⟩
def dkwX1_greatestLoad_1 : List UInt8 := [21, 4, 46, 54, 5, 27, 21, 5, 184, 0, 139, 60, 132, 4, 1, 167, 255, 234, 27, 172]
abbrev dktX1_greatestLoad_1 : List UInt8 := dkwX1_greatestLoad_1 ++ []
def dkwX1_greatestLoad_0 : List UInt8 := [3, 60, 42, 180, 0, 10, 180, 0, 64, 77, 44, 190, 62, 3, 54, 4, 21, 4, 29, 162, 0, 22, 44]
abbrev dktX1_greatestLoad_0 : List UInt8 := dkwX1_greatestLoad_0 ++ dktX1_greatestLoad_1
theorem dksX1_greatestLoad_0 : cX1_greatestLoad.data.toList.drop 0 = dktX1_greatestLoad_0 := by decide +kernel
theorem dksX1_greatestLoad_1 : cX1_greatestLoad.data.toList.drop 23 = dktX1_greatestLoad_1 := dk_seg dksX1_greatestLoad_0 23 rfl rfl
theorem dX1_greatestLoad_0 : decode cX1_greatestLoad 0 = .ok (.iconst 0, 1) := dk_3 (dk_at dksX1_greatestLoad_0 0 rfl rfl)
theorem dX1_greatestLoad_1 : decode cX1_greatestLoad 1 = .ok (.istore_n 1, 1) := dk_60 (dk_at dksX1_greatestLoad_0 1 rfl rfl)
theorem dX1_greatestLoad_2 : decode cX1_greatestLoad 2 = .ok (.aload_n 0, 1) := dk_42 (dk_at dksX1_greatestLoad_0 2 rfl rfl)
theorem dX1_greatestLoad_3 : decode cX1_greatestLoad 3 = .ok (.getfield 10, 3) := dk_180 0 10 (dk_at dksX1_greatestLoad_0 3 rfl rfl)
theorem dX1_greatestLoad_6 : decode cX1_greatestLoad 6 = .ok (.getfield 64, 3) := dk_180 0 64 (dk_at dksX1_greatestLoad_0 6 rfl rfl)
theorem dX1_greatestLoad_9 : decode cX1_greatestLoad 9 = .ok (.astore_n 2, 1) := dk_77 (dk_at dksX1_greatestLoad_0 9 rfl rfl)
theorem dX1_greatestLoad_10 : decode cX1_greatestLoad 10 = .ok (.aload_n 2, 1) := dk_44 (dk_at dksX1_greatestLoad_0 10 rfl rfl)
theorem dX1_greatestLoad_11 : decode cX1_greatestLoad 11 = .ok (.arraylength, 1) := dk_190 (dk_at dksX1_greatestLoad_0 11 rfl rfl)
theorem dX1_greatestLoad_12 : decode cX1_greatestLoad 12 = .ok (.istore_n 3, 1) := dk_62 (dk_at dksX1_greatestLoad_0 12 rfl rfl)
theorem dX1_greatestLoad_13 : decode cX1_greatestLoad 13 = .ok (.iconst 0, 1) := dk_3 (dk_at dksX1_greatestLoad_0 13 rfl rfl)
theorem dX1_greatestLoad_14 : decode cX1_greatestLoad 14 = .ok (.istore 4, 2) := dk_54 4 (dk_at dksX1_greatestLoad_0 14 rfl rfl)
theorem dX1_greatestLoad_16 : decode cX1_greatestLoad 16 = .ok (.iload 4, 2) := dk_21 4 (dk_at dksX1_greatestLoad_0 16 rfl rfl)
theorem dX1_greatestLoad_18 : decode cX1_greatestLoad 18 = .ok (.iload_n 3, 1) := dk_29 (dk_at dksX1_greatestLoad_0 18 rfl rfl)
theorem dX1_greatestLoad_19 : decode cX1_greatestLoad 19 = .ok (.if_icmp .ge 22, 3) := dk_162 0 22 (dk_at dksX1_greatestLoad_0 19 rfl rfl)
theorem dX1_greatestLoad_22 : decode cX1_greatestLoad 22 = .ok (.aload_n 2, 1) := dk_44 (dk_at dksX1_greatestLoad_0 22 rfl rfl)
theorem dX1_greatestLoad_23 : decode cX1_greatestLoad 23 = .ok (.iload 4, 2) := dk_21 4 (dk_at dksX1_greatestLoad_1 0 rfl rfl)
theorem dX1_greatestLoad_25 : decode cX1_greatestLoad 25 = .ok (.iaload, 1) := dk_46 (dk_at dksX1_greatestLoad_1 2 rfl rfl)
theorem dX1_greatestLoad_26 : decode cX1_greatestLoad 26 = .ok (.istore 5, 2) := dk_54 5 (dk_at dksX1_greatestLoad_1 3 rfl rfl)
theorem dX1_greatestLoad_28 : decode cX1_greatestLoad 28 = .ok (.iload_n 1, 1) := dk_27 (dk_at dksX1_greatestLoad_1 5 rfl rfl)
theorem dX1_greatestLoad_29 : decode cX1_greatestLoad 29 = .ok (.iload 5, 2) := dk_21 5 (dk_at dksX1_greatestLoad_1 6 rfl rfl)
theorem dX1_greatestLoad_31 : decode cX1_greatestLoad 31 = .ok (.invokestatic 139, 3) := dk_184 0 139 (dk_at dksX1_greatestLoad_1 8 rfl rfl)
theorem dX1_greatestLoad_34 : decode cX1_greatestLoad 34 = .ok (.istore_n 1, 1) := dk_60 (dk_at dksX1_greatestLoad_1 11 rfl rfl)
theorem dX1_greatestLoad_35 : decode cX1_greatestLoad 35 = .ok (.iinc 4 1, 3) := dk_132 4 1 (dk_at dksX1_greatestLoad_1 12 rfl rfl)
theorem dX1_greatestLoad_38 : decode cX1_greatestLoad 38 = .ok (.goto (-22), 3) := dk_167 255 234 (dk_at dksX1_greatestLoad_1 15 rfl rfl)
theorem dX1_greatestLoad_41 : decode cX1_greatestLoad 41 = .ok (.iload_n 1, 1) := dk_27 (dk_at dksX1_greatestLoad_1 18 rfl rfl)
theorem dX1_greatestLoad_42 : decode cX1_greatestLoad 42 = .ok (.ireturn, 1) := dk_172 (dk_at dksX1_greatestLoad_1 19 rfl rfl)
abbrev cX1_digest : ByteArray := prog_1_method_45_code
def yX1_digest : MethodName := ⟨RX1, "digest", "()J"⟩
def dkwX1_digest_5 : List UInt8 := [180, 0, 31, 27, 182, 1, 27, 133, 182, 0, 254, 132, 1, 1, 167, 255, 229, 42, 180, 0, 250, 173]
abbrev dktX1_digest_5 : List UInt8 := dkwX1_digest_5 ++ []
def dkwX1_digest_4 : List UInt8 := [182, 0, 157, 133, 182, 0, 254, 3, 60, 27, 42, 180, 0, 31, 182, 0, 157, 162, 0, 22, 42, 42]
abbrev dktX1_digest_4 : List UInt8 := dkwX1_digest_4 ++ dktX1_digest_5
def dkwX1_digest_3 : List UInt8 := [182, 0, 254, 42, 182, 1, 18, 42, 42, 182, 0, 244, 184, 1, 21, 182, 0, 254, 42, 42, 180, 0, 31]
abbrev dktX1_digest_3 : List UInt8 := dkwX1_digest_3 ++ dktX1_digest_4
def dkwX1_digest_2 : List UInt8 := [27, 46, 133, 182, 0, 254, 132, 1, 1, 167, 255, 234, 42, 182, 1, 15, 42, 42, 16, 7, 182, 0, 234, 133]
abbrev dktX1_digest_2 : List UInt8 := dkwX1_digest_2 ++ dktX1_digest_3
def dkwX1_digest_1 : List UInt8 := [182, 0, 254, 132, 1, 1, 167, 255, 237, 3, 60, 27, 6, 162, 0, 23, 42, 42, 180, 0, 10, 180, 0, 68]
abbrev dktX1_digest_1 : List UInt8 := dkwX1_digest_1 ++ dktX1_digest_2
def dkwX1_digest_0 : List UInt8 := [42, 20, 1, 13, 181, 0, 250, 3, 60, 27, 16, 11, 162, 0, 19, 42, 42, 27, 182, 0, 228, 133]
abbrev dktX1_digest_0 : List UInt8 := dkwX1_digest_0 ++ dktX1_digest_1
theorem dksX1_digest_0 : cX1_digest.data.toList.drop 0 = dktX1_digest_0 := by decide +kernel
theorem dksX1_digest_1 : cX1_digest.data.toList.drop 22 = dktX1_digest_1 := dk_seg dksX1_digest_0 22 rfl rfl
theorem dksX1_digest_2 : cX1_digest.data.toList.drop 46 = dktX1_digest_2 := dk_seg dksX1_digest_1 24 rfl rfl
theorem dksX1_digest_3 : cX1_digest.data.toList.drop 70 = dktX1_digest_3 := dk_seg dksX1_digest_2 24 rfl rfl
theorem dksX1_digest_4 : cX1_digest.data.toList.drop 93 = dktX1_digest_4 := dk_seg dksX1_digest_3 23 rfl rfl
theorem dksX1_digest_5 : cX1_digest.data.toList.drop 115 = dktX1_digest_5 := dk_seg dksX1_digest_4 22 rfl rfl
theorem dX1_digest_0 : decode cX1_digest 0 = .ok (.aload_n 0, 1) := dk_42 (dk_at dksX1_digest_0 0 rfl rfl)
theorem dX1_digest_1 : decode cX1_digest 1 = .ok (.ldc2_w 269, 3) := dk_20 1 13 (dk_at dksX1_digest_0 1 rfl rfl)
theorem dX1_digest_4 : decode cX1_digest 4 = .ok (.putfield 250, 3) := dk_181 0 250 (dk_at dksX1_digest_0 4 rfl rfl)
theorem dX1_digest_7 : decode cX1_digest 7 = .ok (.iconst 0, 1) := dk_3 (dk_at dksX1_digest_0 7 rfl rfl)
theorem dX1_digest_8 : decode cX1_digest 8 = .ok (.istore_n 1, 1) := dk_60 (dk_at dksX1_digest_0 8 rfl rfl)
theorem dX1_digest_9 : decode cX1_digest 9 = .ok (.iload_n 1, 1) := dk_27 (dk_at dksX1_digest_0 9 rfl rfl)
theorem dX1_digest_10 : decode cX1_digest 10 = .ok (.bipush 11, 2) := dk_16 11 (dk_at dksX1_digest_0 10 rfl rfl)
theorem dX1_digest_12 : decode cX1_digest 12 = .ok (.if_icmp .ge 19, 3) := dk_162 0 19 (dk_at dksX1_digest_0 12 rfl rfl)
theorem dX1_digest_15 : decode cX1_digest 15 = .ok (.aload_n 0, 1) := dk_42 (dk_at dksX1_digest_0 15 rfl rfl)
theorem dX1_digest_16 : decode cX1_digest 16 = .ok (.aload_n 0, 1) := dk_42 (dk_at dksX1_digest_0 16 rfl rfl)
theorem dX1_digest_17 : decode cX1_digest 17 = .ok (.iload_n 1, 1) := dk_27 (dk_at dksX1_digest_0 17 rfl rfl)
theorem dX1_digest_18 : decode cX1_digest 18 = .ok (.invokevirtual 228, 3) := dk_182 0 228 (dk_at dksX1_digest_0 18 rfl rfl)
theorem dX1_digest_21 : decode cX1_digest 21 = .ok (.i2l, 1) := dk_133 (dk_at dksX1_digest_0 21 rfl rfl)
theorem dX1_digest_22 : decode cX1_digest 22 = .ok (.invokevirtual 254, 3) := dk_182 0 254 (dk_at dksX1_digest_1 0 rfl rfl)
theorem dX1_digest_25 : decode cX1_digest 25 = .ok (.iinc 1 1, 3) := dk_132 1 1 (dk_at dksX1_digest_1 3 rfl rfl)
theorem dX1_digest_28 : decode cX1_digest 28 = .ok (.goto (-19), 3) := dk_167 255 237 (dk_at dksX1_digest_1 6 rfl rfl)
theorem dX1_digest_31 : decode cX1_digest 31 = .ok (.iconst 0, 1) := dk_3 (dk_at dksX1_digest_1 9 rfl rfl)
theorem dX1_digest_32 : decode cX1_digest 32 = .ok (.istore_n 1, 1) := dk_60 (dk_at dksX1_digest_1 10 rfl rfl)
theorem dX1_digest_33 : decode cX1_digest 33 = .ok (.iload_n 1, 1) := dk_27 (dk_at dksX1_digest_1 11 rfl rfl)
theorem dX1_digest_34 : decode cX1_digest 34 = .ok (.iconst 3, 1) := dk_6 (dk_at dksX1_digest_1 12 rfl rfl)
theorem dX1_digest_35 : decode cX1_digest 35 = .ok (.if_icmp .ge 23, 3) := dk_162 0 23 (dk_at dksX1_digest_1 13 rfl rfl)
theorem dX1_digest_38 : decode cX1_digest 38 = .ok (.aload_n 0, 1) := dk_42 (dk_at dksX1_digest_1 16 rfl rfl)
theorem dX1_digest_39 : decode cX1_digest 39 = .ok (.aload_n 0, 1) := dk_42 (dk_at dksX1_digest_1 17 rfl rfl)
theorem dX1_digest_40 : decode cX1_digest 40 = .ok (.getfield 10, 3) := dk_180 0 10 (dk_at dksX1_digest_1 18 rfl rfl)
theorem dX1_digest_43 : decode cX1_digest 43 = .ok (.getfield 68, 3) := dk_180 0 68 (dk_at dksX1_digest_1 21 rfl rfl)
theorem dX1_digest_46 : decode cX1_digest 46 = .ok (.iload_n 1, 1) := dk_27 (dk_at dksX1_digest_2 0 rfl rfl)
theorem dX1_digest_47 : decode cX1_digest 47 = .ok (.iaload, 1) := dk_46 (dk_at dksX1_digest_2 1 rfl rfl)
theorem dX1_digest_48 : decode cX1_digest 48 = .ok (.i2l, 1) := dk_133 (dk_at dksX1_digest_2 2 rfl rfl)
theorem dX1_digest_49 : decode cX1_digest 49 = .ok (.invokevirtual 254, 3) := dk_182 0 254 (dk_at dksX1_digest_2 3 rfl rfl)
theorem dX1_digest_52 : decode cX1_digest 52 = .ok (.iinc 1 1, 3) := dk_132 1 1 (dk_at dksX1_digest_2 6 rfl rfl)
theorem dX1_digest_55 : decode cX1_digest 55 = .ok (.goto (-22), 3) := dk_167 255 234 (dk_at dksX1_digest_2 9 rfl rfl)
theorem dX1_digest_58 : decode cX1_digest 58 = .ok (.aload_n 0, 1) := dk_42 (dk_at dksX1_digest_2 12 rfl rfl)
theorem dX1_digest_59 : decode cX1_digest 59 = .ok (.invokevirtual 271, 3) := dk_182 1 15 (dk_at dksX1_digest_2 13 rfl rfl)
theorem dX1_digest_62 : decode cX1_digest 62 = .ok (.aload_n 0, 1) := dk_42 (dk_at dksX1_digest_2 16 rfl rfl)
theorem dX1_digest_63 : decode cX1_digest 63 = .ok (.aload_n 0, 1) := dk_42 (dk_at dksX1_digest_2 17 rfl rfl)
theorem dX1_digest_64 : decode cX1_digest 64 = .ok (.bipush 7, 2) := dk_16 7 (dk_at dksX1_digest_2 18 rfl rfl)
theorem dX1_digest_66 : decode cX1_digest 66 = .ok (.invokevirtual 234, 3) := dk_182 0 234 (dk_at dksX1_digest_2 20 rfl rfl)
theorem dX1_digest_69 : decode cX1_digest 69 = .ok (.i2l, 1) := dk_133 (dk_at dksX1_digest_2 23 rfl rfl)
theorem dX1_digest_70 : decode cX1_digest 70 = .ok (.invokevirtual 254, 3) := dk_182 0 254 (dk_at dksX1_digest_3 0 rfl rfl)
theorem dX1_digest_73 : decode cX1_digest 73 = .ok (.aload_n 0, 1) := dk_42 (dk_at dksX1_digest_3 3 rfl rfl)
theorem dX1_digest_74 : decode cX1_digest 74 = .ok (.invokevirtual 274, 3) := dk_182 1 18 (dk_at dksX1_digest_3 4 rfl rfl)
theorem dX1_digest_77 : decode cX1_digest 77 = .ok (.aload_n 0, 1) := dk_42 (dk_at dksX1_digest_3 7 rfl rfl)
theorem dX1_digest_78 : decode cX1_digest 78 = .ok (.aload_n 0, 1) := dk_42 (dk_at dksX1_digest_3 8 rfl rfl)
theorem dX1_digest_79 : decode cX1_digest 79 = .ok (.invokevirtual 244, 3) := dk_182 0 244 (dk_at dksX1_digest_3 9 rfl rfl)
theorem dX1_digest_82 : decode cX1_digest 82 = .ok (.invokestatic 277, 3) := dk_184 1 21 (dk_at dksX1_digest_3 12 rfl rfl)
theorem dX1_digest_85 : decode cX1_digest 85 = .ok (.invokevirtual 254, 3) := dk_182 0 254 (dk_at dksX1_digest_3 15 rfl rfl)
theorem dX1_digest_88 : decode cX1_digest 88 = .ok (.aload_n 0, 1) := dk_42 (dk_at dksX1_digest_3 18 rfl rfl)
theorem dX1_digest_89 : decode cX1_digest 89 = .ok (.aload_n 0, 1) := dk_42 (dk_at dksX1_digest_3 19 rfl rfl)
theorem dX1_digest_90 : decode cX1_digest 90 = .ok (.getfield 31, 3) := dk_180 0 31 (dk_at dksX1_digest_3 20 rfl rfl)
theorem dX1_digest_93 : decode cX1_digest 93 = .ok (.invokevirtual 157, 3) := dk_182 0 157 (dk_at dksX1_digest_4 0 rfl rfl)
theorem dX1_digest_96 : decode cX1_digest 96 = .ok (.i2l, 1) := dk_133 (dk_at dksX1_digest_4 3 rfl rfl)
theorem dX1_digest_97 : decode cX1_digest 97 = .ok (.invokevirtual 254, 3) := dk_182 0 254 (dk_at dksX1_digest_4 4 rfl rfl)
theorem dX1_digest_100 : decode cX1_digest 100 = .ok (.iconst 0, 1) := dk_3 (dk_at dksX1_digest_4 7 rfl rfl)
theorem dX1_digest_101 : decode cX1_digest 101 = .ok (.istore_n 1, 1) := dk_60 (dk_at dksX1_digest_4 8 rfl rfl)
theorem dX1_digest_102 : decode cX1_digest 102 = .ok (.iload_n 1, 1) := dk_27 (dk_at dksX1_digest_4 9 rfl rfl)
theorem dX1_digest_103 : decode cX1_digest 103 = .ok (.aload_n 0, 1) := dk_42 (dk_at dksX1_digest_4 10 rfl rfl)
theorem dX1_digest_104 : decode cX1_digest 104 = .ok (.getfield 31, 3) := dk_180 0 31 (dk_at dksX1_digest_4 11 rfl rfl)
theorem dX1_digest_107 : decode cX1_digest 107 = .ok (.invokevirtual 157, 3) := dk_182 0 157 (dk_at dksX1_digest_4 14 rfl rfl)
theorem dX1_digest_110 : decode cX1_digest 110 = .ok (.if_icmp .ge 22, 3) := dk_162 0 22 (dk_at dksX1_digest_4 17 rfl rfl)
theorem dX1_digest_113 : decode cX1_digest 113 = .ok (.aload_n 0, 1) := dk_42 (dk_at dksX1_digest_4 20 rfl rfl)
theorem dX1_digest_114 : decode cX1_digest 114 = .ok (.aload_n 0, 1) := dk_42 (dk_at dksX1_digest_4 21 rfl rfl)
theorem dX1_digest_115 : decode cX1_digest 115 = .ok (.getfield 31, 3) := dk_180 0 31 (dk_at dksX1_digest_5 0 rfl rfl)
theorem dX1_digest_118 : decode cX1_digest 118 = .ok (.iload_n 1, 1) := dk_27 (dk_at dksX1_digest_5 3 rfl rfl)
theorem dX1_digest_119 : decode cX1_digest 119 = .ok (.invokevirtual 283, 3) := dk_182 1 27 (dk_at dksX1_digest_5 4 rfl rfl)
theorem dX1_digest_122 : decode cX1_digest 122 = .ok (.i2l, 1) := dk_133 (dk_at dksX1_digest_5 7 rfl rfl)
theorem dX1_digest_123 : decode cX1_digest 123 = .ok (.invokevirtual 254, 3) := dk_182 0 254 (dk_at dksX1_digest_5 8 rfl rfl)
theorem dX1_digest_126 : decode cX1_digest 126 = .ok (.iinc 1 1, 3) := dk_132 1 1 (dk_at dksX1_digest_5 11 rfl rfl)
theorem dX1_digest_129 : decode cX1_digest 129 = .ok (.goto (-27), 3) := dk_167 255 229 (dk_at dksX1_digest_5 14 rfl rfl)
theorem dX1_digest_132 : decode cX1_digest 132 = .ok (.aload_n 0, 1) := dk_42 (dk_at dksX1_digest_5 17 rfl rfl)
theorem dX1_digest_133 : decode cX1_digest 133 = .ok (.getfield 250, 3) := dk_180 0 250 (dk_at dksX1_digest_5 18 rfl rfl)
theorem dX1_digest_136 : decode cX1_digest 136 = .ok (.lreturn, 1) := dk_173 (dk_at dksX1_digest_5 21 rfl rfl)
abbrev cX1_countTold : ByteArray := prog_1_method_29_code
def yX1_countTold : MethodName := ⟨RX1, "countTold", "(I)I"⟩
def dkwX1_countTold_5 : List UInt8 := [180, 0, 10, 180, 0, 222, 172, 42, 182, 0, 225, 172, 42, 180, 0, 22, 182, 0, 35, 172]
abbrev dktX1_countTold_5 : List UInt8 := dkwX1_countTold_5 ++ []
def dkwX1_countTold_4 : List UInt8 := [180, 0, 10, 182, 0, 213, 172, 42, 180, 0, 10, 180, 0, 216, 172, 42, 180, 0, 10, 180, 0, 219, 172, 42]
abbrev dktX1_countTold_4 : List UInt8 := dkwX1_countTold_4 ++ dktX1_countTold_5
def dkwX1_countTold_3 : List UInt8 := [42, 180, 0, 10, 42, 180, 0, 10, 180, 0, 196, 182, 0, 201, 172, 42, 180, 0, 10, 182, 0, 210, 172, 42]
abbrev dktX1_countTold_3 : List UInt8 := dkwX1_countTold_3 ++ dktX1_countTold_4
def dkwX1_countTold_2 : List UInt8 := [42, 180, 0, 10, 180, 0, 196, 172, 42, 180, 0, 10, 180, 0, 89, 182, 0, 35, 172, 42, 182, 0, 207, 172]
abbrev dktX1_countTold_2 : List UInt8 := dkwX1_countTold_2 ++ dktX1_countTold_3
def dkwX1_countTold_1 : List UInt8 := [170, 0, 0, 0, 0, 0, 139, 0, 0, 0, 0, 0, 0, 0, 9, 0, 0, 0, 55, 0, 0, 0, 63, 0, 0, 0, 74, 0, 0, 0, 79, 0, 0, 0, 94, 0, 0, 0, 102, 0, 0, 0, 110, 0, 0, 0, 118, 0, 0, 0, 126, 0, 0, 0, 134]
abbrev dktX1_countTold_1 : List UInt8 := dkwX1_countTold_1 ++ dktX1_countTold_2
def dkwX1_countTold_0 : List UInt8 := [27]
abbrev dktX1_countTold_0 : List UInt8 := dkwX1_countTold_0 ++ dktX1_countTold_1
theorem dksX1_countTold_0 : cX1_countTold.data.toList.drop 0 = dktX1_countTold_0 := by decide +kernel
theorem dksX1_countTold_1 : cX1_countTold.data.toList.drop 1 = dktX1_countTold_1 := dk_seg dksX1_countTold_0 1 rfl rfl
theorem dksX1_countTold_2 : cX1_countTold.data.toList.drop 56 = dktX1_countTold_2 := dk_seg dksX1_countTold_1 55 rfl rfl
theorem dksX1_countTold_3 : cX1_countTold.data.toList.drop 80 = dktX1_countTold_3 := dk_seg dksX1_countTold_2 24 rfl rfl
theorem dksX1_countTold_4 : cX1_countTold.data.toList.drop 104 = dktX1_countTold_4 := dk_seg dksX1_countTold_3 24 rfl rfl
theorem dksX1_countTold_5 : cX1_countTold.data.toList.drop 128 = dktX1_countTold_5 := dk_seg dksX1_countTold_4 24 rfl rfl
theorem dX1_countTold_0 : decode cX1_countTold 0 = .ok (.iload_n 1, 1) := dk_27 (dk_at dksX1_countTold_0 0 rfl rfl)
theorem dX1_countTold_1 : decode cX1_countTold 1 = .ok (.tableswitch 139 0 9 #[55, 63, 74, 79, 94, 102, 110, 118, 126, 134], 55) := by decide +kernel
theorem dX1_countTold_56 : decode cX1_countTold 56 = .ok (.aload_n 0, 1) := dk_42 (dk_at dksX1_countTold_2 0 rfl rfl)
theorem dX1_countTold_57 : decode cX1_countTold 57 = .ok (.getfield 10, 3) := dk_180 0 10 (dk_at dksX1_countTold_2 1 rfl rfl)
theorem dX1_countTold_60 : decode cX1_countTold 60 = .ok (.getfield 196, 3) := dk_180 0 196 (dk_at dksX1_countTold_2 4 rfl rfl)
theorem dX1_countTold_63 : decode cX1_countTold 63 = .ok (.ireturn, 1) := dk_172 (dk_at dksX1_countTold_2 7 rfl rfl)
theorem dX1_countTold_64 : decode cX1_countTold 64 = .ok (.aload_n 0, 1) := dk_42 (dk_at dksX1_countTold_2 8 rfl rfl)
theorem dX1_countTold_65 : decode cX1_countTold 65 = .ok (.getfield 10, 3) := dk_180 0 10 (dk_at dksX1_countTold_2 9 rfl rfl)
theorem dX1_countTold_68 : decode cX1_countTold 68 = .ok (.getfield 89, 3) := dk_180 0 89 (dk_at dksX1_countTold_2 12 rfl rfl)
theorem dX1_countTold_71 : decode cX1_countTold 71 = .ok (.invokevirtual 35, 3) := dk_182 0 35 (dk_at dksX1_countTold_2 15 rfl rfl)
theorem dX1_countTold_74 : decode cX1_countTold 74 = .ok (.ireturn, 1) := dk_172 (dk_at dksX1_countTold_2 18 rfl rfl)
theorem dX1_countTold_75 : decode cX1_countTold 75 = .ok (.aload_n 0, 1) := dk_42 (dk_at dksX1_countTold_2 19 rfl rfl)
theorem dX1_countTold_76 : decode cX1_countTold 76 = .ok (.invokevirtual 207, 3) := dk_182 0 207 (dk_at dksX1_countTold_2 20 rfl rfl)
theorem dX1_countTold_79 : decode cX1_countTold 79 = .ok (.ireturn, 1) := dk_172 (dk_at dksX1_countTold_2 23 rfl rfl)
theorem dX1_countTold_80 : decode cX1_countTold 80 = .ok (.aload_n 0, 1) := dk_42 (dk_at dksX1_countTold_3 0 rfl rfl)
theorem dX1_countTold_81 : decode cX1_countTold 81 = .ok (.getfield 10, 3) := dk_180 0 10 (dk_at dksX1_countTold_3 1 rfl rfl)
theorem dX1_countTold_84 : decode cX1_countTold 84 = .ok (.aload_n 0, 1) := dk_42 (dk_at dksX1_countTold_3 4 rfl rfl)
theorem dX1_countTold_85 : decode cX1_countTold 85 = .ok (.getfield 10, 3) := dk_180 0 10 (dk_at dksX1_countTold_3 5 rfl rfl)
theorem dX1_countTold_88 : decode cX1_countTold 88 = .ok (.getfield 196, 3) := dk_180 0 196 (dk_at dksX1_countTold_3 8 rfl rfl)
theorem dX1_countTold_91 : decode cX1_countTold 91 = .ok (.invokevirtual 201, 3) := dk_182 0 201 (dk_at dksX1_countTold_3 11 rfl rfl)
theorem dX1_countTold_94 : decode cX1_countTold 94 = .ok (.ireturn, 1) := dk_172 (dk_at dksX1_countTold_3 14 rfl rfl)
theorem dX1_countTold_95 : decode cX1_countTold 95 = .ok (.aload_n 0, 1) := dk_42 (dk_at dksX1_countTold_3 15 rfl rfl)
theorem dX1_countTold_96 : decode cX1_countTold 96 = .ok (.getfield 10, 3) := dk_180 0 10 (dk_at dksX1_countTold_3 16 rfl rfl)
theorem dX1_countTold_99 : decode cX1_countTold 99 = .ok (.invokevirtual 210, 3) := dk_182 0 210 (dk_at dksX1_countTold_3 19 rfl rfl)
theorem dX1_countTold_102 : decode cX1_countTold 102 = .ok (.ireturn, 1) := dk_172 (dk_at dksX1_countTold_3 22 rfl rfl)
theorem dX1_countTold_103 : decode cX1_countTold 103 = .ok (.aload_n 0, 1) := dk_42 (dk_at dksX1_countTold_3 23 rfl rfl)
theorem dX1_countTold_104 : decode cX1_countTold 104 = .ok (.getfield 10, 3) := dk_180 0 10 (dk_at dksX1_countTold_4 0 rfl rfl)
theorem dX1_countTold_107 : decode cX1_countTold 107 = .ok (.invokevirtual 213, 3) := dk_182 0 213 (dk_at dksX1_countTold_4 3 rfl rfl)
theorem dX1_countTold_110 : decode cX1_countTold 110 = .ok (.ireturn, 1) := dk_172 (dk_at dksX1_countTold_4 6 rfl rfl)
theorem dX1_countTold_111 : decode cX1_countTold 111 = .ok (.aload_n 0, 1) := dk_42 (dk_at dksX1_countTold_4 7 rfl rfl)
theorem dX1_countTold_112 : decode cX1_countTold 112 = .ok (.getfield 10, 3) := dk_180 0 10 (dk_at dksX1_countTold_4 8 rfl rfl)
theorem dX1_countTold_115 : decode cX1_countTold 115 = .ok (.getfield 216, 3) := dk_180 0 216 (dk_at dksX1_countTold_4 11 rfl rfl)
theorem dX1_countTold_118 : decode cX1_countTold 118 = .ok (.ireturn, 1) := dk_172 (dk_at dksX1_countTold_4 14 rfl rfl)
theorem dX1_countTold_119 : decode cX1_countTold 119 = .ok (.aload_n 0, 1) := dk_42 (dk_at dksX1_countTold_4 15 rfl rfl)
theorem dX1_countTold_120 : decode cX1_countTold 120 = .ok (.getfield 10, 3) := dk_180 0 10 (dk_at dksX1_countTold_4 16 rfl rfl)
theorem dX1_countTold_123 : decode cX1_countTold 123 = .ok (.getfield 219, 3) := dk_180 0 219 (dk_at dksX1_countTold_4 19 rfl rfl)
theorem dX1_countTold_126 : decode cX1_countTold 126 = .ok (.ireturn, 1) := dk_172 (dk_at dksX1_countTold_4 22 rfl rfl)
theorem dX1_countTold_127 : decode cX1_countTold 127 = .ok (.aload_n 0, 1) := dk_42 (dk_at dksX1_countTold_4 23 rfl rfl)
theorem dX1_countTold_128 : decode cX1_countTold 128 = .ok (.getfield 10, 3) := dk_180 0 10 (dk_at dksX1_countTold_5 0 rfl rfl)
theorem dX1_countTold_131 : decode cX1_countTold 131 = .ok (.getfield 222, 3) := dk_180 0 222 (dk_at dksX1_countTold_5 3 rfl rfl)
theorem dX1_countTold_134 : decode cX1_countTold 134 = .ok (.ireturn, 1) := dk_172 (dk_at dksX1_countTold_5 6 rfl rfl)
theorem dX1_countTold_135 : decode cX1_countTold 135 = .ok (.aload_n 0, 1) := dk_42 (dk_at dksX1_countTold_5 7 rfl rfl)
theorem dX1_countTold_136 : decode cX1_countTold 136 = .ok (.invokevirtual 225, 3) := dk_182 0 225 (dk_at dksX1_countTold_5 8 rfl rfl)
theorem dX1_countTold_139 : decode cX1_countTold 139 = .ok (.ireturn, 1) := dk_172 (dk_at dksX1_countTold_5 11 rfl rfl)
theorem dX1_countTold_140 : decode cX1_countTold 140 = .ok (.aload_n 0, 1) := dk_42 (dk_at dksX1_countTold_5 12 rfl rfl)
theorem dX1_countTold_141 : decode cX1_countTold 141 = .ok (.getfield 22, 3) := dk_180 0 22 (dk_at dksX1_countTold_5 13 rfl rfl)
theorem dX1_countTold_144 : decode cX1_countTold 144 = .ok (.invokevirtual 35, 3) := dk_182 0 35 (dk_at dksX1_countTold_5 16 rfl rfl)
theorem dX1_countTold_147 : decode cX1_countTold 147 = .ok (.ireturn, 1) := dk_172 (dk_at dksX1_countTold_5 19 rfl rfl)
abbrev cX1_load : ByteArray := prog_1_method_27_code
def yX1_load : MethodName := ⟨RX1, "load", "()I"⟩
def dkwX1_load_1 : List UInt8 := [21, 4, 46, 54, 5, 27, 21, 5, 96, 60, 132, 4, 1, 167, 255, 236, 27, 172]
abbrev dktX1_load_1 : List UInt8 := dkwX1_load_1 ++ []
def dkwX1_load_0 : List UInt8 := [3, 60, 42, 180, 0, 10, 180, 0, 64, 77, 44, 190, 62, 3, 54, 4, 21, 4, 29, 162, 0, 20, 44]
abbrev dktX1_load_0 : List UInt8 := dkwX1_load_0 ++ dktX1_load_1
theorem dksX1_load_0 : cX1_load.data.toList.drop 0 = dktX1_load_0 := by decide +kernel
theorem dksX1_load_1 : cX1_load.data.toList.drop 23 = dktX1_load_1 := dk_seg dksX1_load_0 23 rfl rfl
theorem dX1_load_0 : decode cX1_load 0 = .ok (.iconst 0, 1) := dk_3 (dk_at dksX1_load_0 0 rfl rfl)
theorem dX1_load_1 : decode cX1_load 1 = .ok (.istore_n 1, 1) := dk_60 (dk_at dksX1_load_0 1 rfl rfl)
theorem dX1_load_2 : decode cX1_load 2 = .ok (.aload_n 0, 1) := dk_42 (dk_at dksX1_load_0 2 rfl rfl)
theorem dX1_load_3 : decode cX1_load 3 = .ok (.getfield 10, 3) := dk_180 0 10 (dk_at dksX1_load_0 3 rfl rfl)
theorem dX1_load_6 : decode cX1_load 6 = .ok (.getfield 64, 3) := dk_180 0 64 (dk_at dksX1_load_0 6 rfl rfl)
theorem dX1_load_9 : decode cX1_load 9 = .ok (.astore_n 2, 1) := dk_77 (dk_at dksX1_load_0 9 rfl rfl)
theorem dX1_load_10 : decode cX1_load 10 = .ok (.aload_n 2, 1) := dk_44 (dk_at dksX1_load_0 10 rfl rfl)
theorem dX1_load_11 : decode cX1_load 11 = .ok (.arraylength, 1) := dk_190 (dk_at dksX1_load_0 11 rfl rfl)
theorem dX1_load_12 : decode cX1_load 12 = .ok (.istore_n 3, 1) := dk_62 (dk_at dksX1_load_0 12 rfl rfl)
theorem dX1_load_13 : decode cX1_load 13 = .ok (.iconst 0, 1) := dk_3 (dk_at dksX1_load_0 13 rfl rfl)
theorem dX1_load_14 : decode cX1_load 14 = .ok (.istore 4, 2) := dk_54 4 (dk_at dksX1_load_0 14 rfl rfl)
theorem dX1_load_16 : decode cX1_load 16 = .ok (.iload 4, 2) := dk_21 4 (dk_at dksX1_load_0 16 rfl rfl)
theorem dX1_load_18 : decode cX1_load 18 = .ok (.iload_n 3, 1) := dk_29 (dk_at dksX1_load_0 18 rfl rfl)
theorem dX1_load_19 : decode cX1_load 19 = .ok (.if_icmp .ge 20, 3) := dk_162 0 20 (dk_at dksX1_load_0 19 rfl rfl)
theorem dX1_load_22 : decode cX1_load 22 = .ok (.aload_n 2, 1) := dk_44 (dk_at dksX1_load_0 22 rfl rfl)
theorem dX1_load_23 : decode cX1_load 23 = .ok (.iload 4, 2) := dk_21 4 (dk_at dksX1_load_1 0 rfl rfl)
theorem dX1_load_25 : decode cX1_load 25 = .ok (.iaload, 1) := dk_46 (dk_at dksX1_load_1 2 rfl rfl)
theorem dX1_load_26 : decode cX1_load 26 = .ok (.istore 5, 2) := dk_54 5 (dk_at dksX1_load_1 3 rfl rfl)
theorem dX1_load_28 : decode cX1_load 28 = .ok (.iload_n 1, 1) := dk_27 (dk_at dksX1_load_1 5 rfl rfl)
theorem dX1_load_29 : decode cX1_load 29 = .ok (.iload 5, 2) := dk_21 5 (dk_at dksX1_load_1 6 rfl rfl)
theorem dX1_load_31 : decode cX1_load 31 = .ok (.iadd, 1) := dk_96 (dk_at dksX1_load_1 8 rfl rfl)
theorem dX1_load_32 : decode cX1_load 32 = .ok (.istore_n 1, 1) := dk_60 (dk_at dksX1_load_1 9 rfl rfl)
theorem dX1_load_33 : decode cX1_load 33 = .ok (.iinc 4 1, 3) := dk_132 4 1 (dk_at dksX1_load_1 10 rfl rfl)
theorem dX1_load_36 : decode cX1_load 36 = .ok (.goto (-20), 3) := dk_167 255 236 (dk_at dksX1_load_1 13 rfl rfl)
theorem dX1_load_39 : decode cX1_load 39 = .ok (.iload_n 1, 1) := dk_27 (dk_at dksX1_load_1 16 rfl rfl)
theorem dX1_load_40 : decode cX1_load 40 = .ok (.ireturn, 1) := dk_172 (dk_at dksX1_load_1 17 rfl rfl)
abbrev cX1_jammed : ByteArray := prog_1_method_28_code
def yX1_jammed : MethodName := ⟨RX1, "jammed", "()I"⟩
def dkwX1_jammed_2 : List UInt8 := [27, 172]
abbrev dktX1_jammed_2 : List UInt8 := dkwX1_jammed_2 ++ []
def dkwX1_jammed_1 : List UInt8 := [21, 4, 51, 54, 5, 27, 21, 5, 153, 0, 7, 4, 167, 0, 4, 3, 96, 60, 132, 4, 1, 167, 255, 228]
abbrev dktX1_jammed_1 : List UInt8 := dkwX1_jammed_1 ++ dktX1_jammed_2
def dkwX1_jammed_0 : List UInt8 := [3, 60, 42, 180, 0, 10, 180, 0, 113, 77, 44, 190, 62, 3, 54, 4, 21, 4, 29, 162, 0, 28, 44]
abbrev dktX1_jammed_0 : List UInt8 := dkwX1_jammed_0 ++ dktX1_jammed_1
theorem dksX1_jammed_0 : cX1_jammed.data.toList.drop 0 = dktX1_jammed_0 := by decide +kernel
theorem dksX1_jammed_1 : cX1_jammed.data.toList.drop 23 = dktX1_jammed_1 := dk_seg dksX1_jammed_0 23 rfl rfl
theorem dksX1_jammed_2 : cX1_jammed.data.toList.drop 47 = dktX1_jammed_2 := dk_seg dksX1_jammed_1 24 rfl rfl
theorem dX1_jammed_0 : decode cX1_jammed 0 = .ok (.iconst 0, 1) := dk_3 (dk_at dksX1_jammed_0 0 rfl rfl)
theorem dX1_jammed_1 : decode cX1_jammed 1 = .ok (.istore_n 1, 1) := dk_60 (dk_at dksX1_jammed_0 1 rfl rfl)
theorem dX1_jammed_2 : decode cX1_jammed 2 = .ok (.aload_n 0, 1) := dk_42 (dk_at dksX1_jammed_0 2 rfl rfl)
theorem dX1_jammed_3 : decode cX1_jammed 3 = .ok (.getfield 10, 3) := dk_180 0 10 (dk_at dksX1_jammed_0 3 rfl rfl)
theorem dX1_jammed_6 : decode cX1_jammed 6 = .ok (.getfield 113, 3) := dk_180 0 113 (dk_at dksX1_jammed_0 6 rfl rfl)
theorem dX1_jammed_9 : decode cX1_jammed 9 = .ok (.astore_n 2, 1) := dk_77 (dk_at dksX1_jammed_0 9 rfl rfl)
theorem dX1_jammed_10 : decode cX1_jammed 10 = .ok (.aload_n 2, 1) := dk_44 (dk_at dksX1_jammed_0 10 rfl rfl)
theorem dX1_jammed_11 : decode cX1_jammed 11 = .ok (.arraylength, 1) := dk_190 (dk_at dksX1_jammed_0 11 rfl rfl)
theorem dX1_jammed_12 : decode cX1_jammed 12 = .ok (.istore_n 3, 1) := dk_62 (dk_at dksX1_jammed_0 12 rfl rfl)
theorem dX1_jammed_13 : decode cX1_jammed 13 = .ok (.iconst 0, 1) := dk_3 (dk_at dksX1_jammed_0 13 rfl rfl)
theorem dX1_jammed_14 : decode cX1_jammed 14 = .ok (.istore 4, 2) := dk_54 4 (dk_at dksX1_jammed_0 14 rfl rfl)
theorem dX1_jammed_16 : decode cX1_jammed 16 = .ok (.iload 4, 2) := dk_21 4 (dk_at dksX1_jammed_0 16 rfl rfl)
theorem dX1_jammed_18 : decode cX1_jammed 18 = .ok (.iload_n 3, 1) := dk_29 (dk_at dksX1_jammed_0 18 rfl rfl)
theorem dX1_jammed_19 : decode cX1_jammed 19 = .ok (.if_icmp .ge 28, 3) := dk_162 0 28 (dk_at dksX1_jammed_0 19 rfl rfl)
theorem dX1_jammed_22 : decode cX1_jammed 22 = .ok (.aload_n 2, 1) := dk_44 (dk_at dksX1_jammed_0 22 rfl rfl)
theorem dX1_jammed_23 : decode cX1_jammed 23 = .ok (.iload 4, 2) := dk_21 4 (dk_at dksX1_jammed_1 0 rfl rfl)
theorem dX1_jammed_25 : decode cX1_jammed 25 = .ok (.baload, 1) := dk_51 (dk_at dksX1_jammed_1 2 rfl rfl)
theorem dX1_jammed_26 : decode cX1_jammed 26 = .ok (.istore 5, 2) := dk_54 5 (dk_at dksX1_jammed_1 3 rfl rfl)
theorem dX1_jammed_28 : decode cX1_jammed 28 = .ok (.iload_n 1, 1) := dk_27 (dk_at dksX1_jammed_1 5 rfl rfl)
theorem dX1_jammed_29 : decode cX1_jammed 29 = .ok (.iload 5, 2) := dk_21 5 (dk_at dksX1_jammed_1 6 rfl rfl)
theorem dX1_jammed_31 : decode cX1_jammed 31 = .ok (.ifCond .eq 7, 3) := dk_153 0 7 (dk_at dksX1_jammed_1 8 rfl rfl)
theorem dX1_jammed_34 : decode cX1_jammed 34 = .ok (.iconst 1, 1) := dk_4 (dk_at dksX1_jammed_1 11 rfl rfl)
theorem dX1_jammed_35 : decode cX1_jammed 35 = .ok (.goto 4, 3) := dk_167 0 4 (dk_at dksX1_jammed_1 12 rfl rfl)
theorem dX1_jammed_38 : decode cX1_jammed 38 = .ok (.iconst 0, 1) := dk_3 (dk_at dksX1_jammed_1 15 rfl rfl)
theorem dX1_jammed_39 : decode cX1_jammed 39 = .ok (.iadd, 1) := dk_96 (dk_at dksX1_jammed_1 16 rfl rfl)
theorem dX1_jammed_40 : decode cX1_jammed 40 = .ok (.istore_n 1, 1) := dk_60 (dk_at dksX1_jammed_1 17 rfl rfl)
theorem dX1_jammed_41 : decode cX1_jammed 41 = .ok (.iinc 4 1, 3) := dk_132 4 1 (dk_at dksX1_jammed_1 18 rfl rfl)
theorem dX1_jammed_44 : decode cX1_jammed 44 = .ok (.goto (-28), 3) := dk_167 255 228 (dk_at dksX1_jammed_1 21 rfl rfl)
theorem dX1_jammed_47 : decode cX1_jammed 47 = .ok (.iload_n 1, 1) := dk_27 (dk_at dksX1_jammed_2 0 rfl rfl)
theorem dX1_jammed_48 : decode cX1_jammed 48 = .ok (.ireturn, 1) := dk_172 (dk_at dksX1_jammed_2 1 rfl rfl)
abbrev cX1_mix : ByteArray := prog_1_method_42_code
def yX1_mix : MethodName := ⟨RX1, "mix", "(J)V"⟩
def dkwX1_mix_0 : List UInt8 := [42, 20, 0, 248, 42, 180, 0, 250, 105, 31, 97, 181, 0, 250, 177]
abbrev dktX1_mix_0 : List UInt8 := dkwX1_mix_0 ++ []
theorem dksX1_mix_0 : cX1_mix.data.toList.drop 0 = dktX1_mix_0 := by decide +kernel
theorem dX1_mix_0 : decode cX1_mix 0 = .ok (.aload_n 0, 1) := dk_42 (dk_at dksX1_mix_0 0 rfl rfl)
theorem dX1_mix_1 : decode cX1_mix 1 = .ok (.ldc2_w 248, 3) := dk_20 0 248 (dk_at dksX1_mix_0 1 rfl rfl)
theorem dX1_mix_4 : decode cX1_mix 4 = .ok (.aload_n 0, 1) := dk_42 (dk_at dksX1_mix_0 4 rfl rfl)
theorem dX1_mix_5 : decode cX1_mix 5 = .ok (.getfield 250, 3) := dk_180 0 250 (dk_at dksX1_mix_0 5 rfl rfl)
theorem dX1_mix_8 : decode cX1_mix 8 = .ok (.lmul, 1) := dk_105 (dk_at dksX1_mix_0 8 rfl rfl)
theorem dX1_mix_9 : decode cX1_mix 9 = .ok (.lload_n 1, 1) := dk_31 (dk_at dksX1_mix_0 9 rfl rfl)
theorem dX1_mix_10 : decode cX1_mix 10 = .ok (.ladd, 1) := dk_97 (dk_at dksX1_mix_0 10 rfl rfl)
theorem dX1_mix_11 : decode cX1_mix 11 = .ok (.putfield 250, 3) := dk_181 0 250 (dk_at dksX1_mix_0 11 rfl rfl)
theorem dX1_mix_14 : decode cX1_mix 14 = .ok (.return_, 1) := dk_177 (dk_at dksX1_mix_0 14 rfl rfl)
abbrev cX1_mixDrawers : ByteArray := prog_1_method_43_code
def yX1_mixDrawers : MethodName := ⟨RX1, "mixDrawers", "()V"⟩
def dkwX1_mixDrawers_6 : List UInt8 := [182, 0, 254, 132, 1, 1, 167, 255, 175, 177]
abbrev dktX1_mixDrawers_6 : List UInt8 := dkwX1_mixDrawers_6 ++ []
def dkwX1_mixDrawers_5 : List UInt8 := [180, 0, 117, 133, 182, 0, 254, 42, 42, 180, 0, 10, 44, 180, 1, 2, 180, 1, 6, 182, 0, 125, 133]
abbrev dktX1_mixDrawers_5 : List UInt8 := dkwX1_mixDrawers_5 ++ dktX1_mixDrawers_6
def dkwX1_mixDrawers_4 : List UInt8 := [42, 44, 180, 1, 2, 180, 1, 6, 133, 182, 0, 254, 42, 44, 180, 0, 122, 133, 182, 0, 254, 42, 44]
abbrev dktX1_mixDrawers_4 : List UInt8 := dkwX1_mixDrawers_4 ++ dktX1_mixDrawers_5
def dkwX1_mixDrawers_3 : List UInt8 := [180, 0, 89, 182, 0, 35, 162, 0, 73, 42, 180, 0, 10, 180, 0, 89, 27, 182, 0, 182, 192, 0, 118, 77]
abbrev dktX1_mixDrawers_3 : List UInt8 := dkwX1_mixDrawers_3 ++ dktX1_mixDrawers_4
def dkwX1_mixDrawers_2 : List UInt8 := [27, 8, 182, 0, 231, 133, 182, 0, 254, 132, 1, 1, 167, 255, 198, 3, 60, 27, 42, 180, 0, 10]
abbrev dktX1_mixDrawers_2 : List UInt8 := dkwX1_mixDrawers_2 ++ dktX1_mixDrawers_3
def dkwX1_mixDrawers_1 : List UInt8 := [182, 0, 254, 132, 2, 1, 167, 255, 236, 42, 42, 180, 0, 10, 27, 182, 0, 133, 133, 182, 0, 254, 42, 42]
abbrev dktX1_mixDrawers_1 : List UInt8 := dkwX1_mixDrawers_1 ++ dktX1_mixDrawers_2
def dkwX1_mixDrawers_0 : List UInt8 := [3, 60, 27, 16, 12, 162, 0, 58, 3, 61, 28, 16, 6, 162, 0, 20, 42, 42, 27, 28, 182, 0, 204, 133]
abbrev dktX1_mixDrawers_0 : List UInt8 := dkwX1_mixDrawers_0 ++ dktX1_mixDrawers_1
theorem dksX1_mixDrawers_0 : cX1_mixDrawers.data.toList.drop 0 = dktX1_mixDrawers_0 := by decide +kernel
theorem dksX1_mixDrawers_1 : cX1_mixDrawers.data.toList.drop 24 = dktX1_mixDrawers_1 := dk_seg dksX1_mixDrawers_0 24 rfl rfl
theorem dksX1_mixDrawers_2 : cX1_mixDrawers.data.toList.drop 48 = dktX1_mixDrawers_2 := dk_seg dksX1_mixDrawers_1 24 rfl rfl
theorem dksX1_mixDrawers_3 : cX1_mixDrawers.data.toList.drop 70 = dktX1_mixDrawers_3 := dk_seg dksX1_mixDrawers_2 22 rfl rfl
theorem dksX1_mixDrawers_4 : cX1_mixDrawers.data.toList.drop 94 = dktX1_mixDrawers_4 := dk_seg dksX1_mixDrawers_3 24 rfl rfl
theorem dksX1_mixDrawers_5 : cX1_mixDrawers.data.toList.drop 117 = dktX1_mixDrawers_5 := dk_seg dksX1_mixDrawers_4 23 rfl rfl
theorem dksX1_mixDrawers_6 : cX1_mixDrawers.data.toList.drop 140 = dktX1_mixDrawers_6 := dk_seg dksX1_mixDrawers_5 23 rfl rfl
theorem dX1_mixDrawers_0 : decode cX1_mixDrawers 0 = .ok (.iconst 0, 1) := dk_3 (dk_at dksX1_mixDrawers_0 0 rfl rfl)
theorem dX1_mixDrawers_1 : decode cX1_mixDrawers 1 = .ok (.istore_n 1, 1) := dk_60 (dk_at dksX1_mixDrawers_0 1 rfl rfl)
theorem dX1_mixDrawers_2 : decode cX1_mixDrawers 2 = .ok (.iload_n 1, 1) := dk_27 (dk_at dksX1_mixDrawers_0 2 rfl rfl)
theorem dX1_mixDrawers_3 : decode cX1_mixDrawers 3 = .ok (.bipush 12, 2) := dk_16 12 (dk_at dksX1_mixDrawers_0 3 rfl rfl)
theorem dX1_mixDrawers_5 : decode cX1_mixDrawers 5 = .ok (.if_icmp .ge 58, 3) := dk_162 0 58 (dk_at dksX1_mixDrawers_0 5 rfl rfl)
theorem dX1_mixDrawers_8 : decode cX1_mixDrawers 8 = .ok (.iconst 0, 1) := dk_3 (dk_at dksX1_mixDrawers_0 8 rfl rfl)
theorem dX1_mixDrawers_9 : decode cX1_mixDrawers 9 = .ok (.istore_n 2, 1) := dk_61 (dk_at dksX1_mixDrawers_0 9 rfl rfl)
theorem dX1_mixDrawers_10 : decode cX1_mixDrawers 10 = .ok (.iload_n 2, 1) := dk_28 (dk_at dksX1_mixDrawers_0 10 rfl rfl)
theorem dX1_mixDrawers_11 : decode cX1_mixDrawers 11 = .ok (.bipush 6, 2) := dk_16 6 (dk_at dksX1_mixDrawers_0 11 rfl rfl)
theorem dX1_mixDrawers_13 : decode cX1_mixDrawers 13 = .ok (.if_icmp .ge 20, 3) := dk_162 0 20 (dk_at dksX1_mixDrawers_0 13 rfl rfl)
theorem dX1_mixDrawers_16 : decode cX1_mixDrawers 16 = .ok (.aload_n 0, 1) := dk_42 (dk_at dksX1_mixDrawers_0 16 rfl rfl)
theorem dX1_mixDrawers_17 : decode cX1_mixDrawers 17 = .ok (.aload_n 0, 1) := dk_42 (dk_at dksX1_mixDrawers_0 17 rfl rfl)
theorem dX1_mixDrawers_18 : decode cX1_mixDrawers 18 = .ok (.iload_n 1, 1) := dk_27 (dk_at dksX1_mixDrawers_0 18 rfl rfl)
theorem dX1_mixDrawers_19 : decode cX1_mixDrawers 19 = .ok (.iload_n 2, 1) := dk_28 (dk_at dksX1_mixDrawers_0 19 rfl rfl)
theorem dX1_mixDrawers_20 : decode cX1_mixDrawers 20 = .ok (.invokevirtual 204, 3) := dk_182 0 204 (dk_at dksX1_mixDrawers_0 20 rfl rfl)
theorem dX1_mixDrawers_23 : decode cX1_mixDrawers 23 = .ok (.i2l, 1) := dk_133 (dk_at dksX1_mixDrawers_0 23 rfl rfl)
theorem dX1_mixDrawers_24 : decode cX1_mixDrawers 24 = .ok (.invokevirtual 254, 3) := dk_182 0 254 (dk_at dksX1_mixDrawers_1 0 rfl rfl)
theorem dX1_mixDrawers_27 : decode cX1_mixDrawers 27 = .ok (.iinc 2 1, 3) := dk_132 2 1 (dk_at dksX1_mixDrawers_1 3 rfl rfl)
theorem dX1_mixDrawers_30 : decode cX1_mixDrawers 30 = .ok (.goto (-20), 3) := dk_167 255 236 (dk_at dksX1_mixDrawers_1 6 rfl rfl)
theorem dX1_mixDrawers_33 : decode cX1_mixDrawers 33 = .ok (.aload_n 0, 1) := dk_42 (dk_at dksX1_mixDrawers_1 9 rfl rfl)
theorem dX1_mixDrawers_34 : decode cX1_mixDrawers 34 = .ok (.aload_n 0, 1) := dk_42 (dk_at dksX1_mixDrawers_1 10 rfl rfl)
theorem dX1_mixDrawers_35 : decode cX1_mixDrawers 35 = .ok (.getfield 10, 3) := dk_180 0 10 (dk_at dksX1_mixDrawers_1 11 rfl rfl)
theorem dX1_mixDrawers_38 : decode cX1_mixDrawers 38 = .ok (.iload_n 1, 1) := dk_27 (dk_at dksX1_mixDrawers_1 14 rfl rfl)
theorem dX1_mixDrawers_39 : decode cX1_mixDrawers 39 = .ok (.invokevirtual 133, 3) := dk_182 0 133 (dk_at dksX1_mixDrawers_1 15 rfl rfl)
theorem dX1_mixDrawers_42 : decode cX1_mixDrawers 42 = .ok (.i2l, 1) := dk_133 (dk_at dksX1_mixDrawers_1 18 rfl rfl)
theorem dX1_mixDrawers_43 : decode cX1_mixDrawers 43 = .ok (.invokevirtual 254, 3) := dk_182 0 254 (dk_at dksX1_mixDrawers_1 19 rfl rfl)
theorem dX1_mixDrawers_46 : decode cX1_mixDrawers 46 = .ok (.aload_n 0, 1) := dk_42 (dk_at dksX1_mixDrawers_1 22 rfl rfl)
theorem dX1_mixDrawers_47 : decode cX1_mixDrawers 47 = .ok (.aload_n 0, 1) := dk_42 (dk_at dksX1_mixDrawers_1 23 rfl rfl)
theorem dX1_mixDrawers_48 : decode cX1_mixDrawers 48 = .ok (.iload_n 1, 1) := dk_27 (dk_at dksX1_mixDrawers_2 0 rfl rfl)
theorem dX1_mixDrawers_49 : decode cX1_mixDrawers 49 = .ok (.iconst 5, 1) := dk_8 (dk_at dksX1_mixDrawers_2 1 rfl rfl)
theorem dX1_mixDrawers_50 : decode cX1_mixDrawers 50 = .ok (.invokevirtual 231, 3) := dk_182 0 231 (dk_at dksX1_mixDrawers_2 2 rfl rfl)
theorem dX1_mixDrawers_53 : decode cX1_mixDrawers 53 = .ok (.i2l, 1) := dk_133 (dk_at dksX1_mixDrawers_2 5 rfl rfl)
theorem dX1_mixDrawers_54 : decode cX1_mixDrawers 54 = .ok (.invokevirtual 254, 3) := dk_182 0 254 (dk_at dksX1_mixDrawers_2 6 rfl rfl)
theorem dX1_mixDrawers_57 : decode cX1_mixDrawers 57 = .ok (.iinc 1 1, 3) := dk_132 1 1 (dk_at dksX1_mixDrawers_2 9 rfl rfl)
theorem dX1_mixDrawers_60 : decode cX1_mixDrawers 60 = .ok (.goto (-58), 3) := dk_167 255 198 (dk_at dksX1_mixDrawers_2 12 rfl rfl)
theorem dX1_mixDrawers_63 : decode cX1_mixDrawers 63 = .ok (.iconst 0, 1) := dk_3 (dk_at dksX1_mixDrawers_2 15 rfl rfl)
theorem dX1_mixDrawers_64 : decode cX1_mixDrawers 64 = .ok (.istore_n 1, 1) := dk_60 (dk_at dksX1_mixDrawers_2 16 rfl rfl)
theorem dX1_mixDrawers_65 : decode cX1_mixDrawers 65 = .ok (.iload_n 1, 1) := dk_27 (dk_at dksX1_mixDrawers_2 17 rfl rfl)
theorem dX1_mixDrawers_66 : decode cX1_mixDrawers 66 = .ok (.aload_n 0, 1) := dk_42 (dk_at dksX1_mixDrawers_2 18 rfl rfl)
theorem dX1_mixDrawers_67 : decode cX1_mixDrawers 67 = .ok (.getfield 10, 3) := dk_180 0 10 (dk_at dksX1_mixDrawers_2 19 rfl rfl)
theorem dX1_mixDrawers_70 : decode cX1_mixDrawers 70 = .ok (.getfield 89, 3) := dk_180 0 89 (dk_at dksX1_mixDrawers_3 0 rfl rfl)
theorem dX1_mixDrawers_73 : decode cX1_mixDrawers 73 = .ok (.invokevirtual 35, 3) := dk_182 0 35 (dk_at dksX1_mixDrawers_3 3 rfl rfl)
theorem dX1_mixDrawers_76 : decode cX1_mixDrawers 76 = .ok (.if_icmp .ge 73, 3) := dk_162 0 73 (dk_at dksX1_mixDrawers_3 6 rfl rfl)
theorem dX1_mixDrawers_79 : decode cX1_mixDrawers 79 = .ok (.aload_n 0, 1) := dk_42 (dk_at dksX1_mixDrawers_3 9 rfl rfl)
theorem dX1_mixDrawers_80 : decode cX1_mixDrawers 80 = .ok (.getfield 10, 3) := dk_180 0 10 (dk_at dksX1_mixDrawers_3 10 rfl rfl)
theorem dX1_mixDrawers_83 : decode cX1_mixDrawers 83 = .ok (.getfield 89, 3) := dk_180 0 89 (dk_at dksX1_mixDrawers_3 13 rfl rfl)
theorem dX1_mixDrawers_86 : decode cX1_mixDrawers 86 = .ok (.iload_n 1, 1) := dk_27 (dk_at dksX1_mixDrawers_3 16 rfl rfl)
theorem dX1_mixDrawers_87 : decode cX1_mixDrawers 87 = .ok (.invokevirtual 182, 3) := dk_182 0 182 (dk_at dksX1_mixDrawers_3 17 rfl rfl)
theorem dX1_mixDrawers_90 : decode cX1_mixDrawers 90 = .ok (.checkcast 118, 3) := dk_192 0 118 (dk_at dksX1_mixDrawers_3 20 rfl rfl)
theorem dX1_mixDrawers_93 : decode cX1_mixDrawers 93 = .ok (.astore_n 2, 1) := dk_77 (dk_at dksX1_mixDrawers_3 23 rfl rfl)
theorem dX1_mixDrawers_94 : decode cX1_mixDrawers 94 = .ok (.aload_n 0, 1) := dk_42 (dk_at dksX1_mixDrawers_4 0 rfl rfl)
theorem dX1_mixDrawers_95 : decode cX1_mixDrawers 95 = .ok (.aload_n 2, 1) := dk_44 (dk_at dksX1_mixDrawers_4 1 rfl rfl)
theorem dX1_mixDrawers_96 : decode cX1_mixDrawers 96 = .ok (.getfield 258, 3) := dk_180 1 2 (dk_at dksX1_mixDrawers_4 2 rfl rfl)
theorem dX1_mixDrawers_99 : decode cX1_mixDrawers 99 = .ok (.getfield 262, 3) := dk_180 1 6 (dk_at dksX1_mixDrawers_4 5 rfl rfl)
theorem dX1_mixDrawers_102 : decode cX1_mixDrawers 102 = .ok (.i2l, 1) := dk_133 (dk_at dksX1_mixDrawers_4 8 rfl rfl)
theorem dX1_mixDrawers_103 : decode cX1_mixDrawers 103 = .ok (.invokevirtual 254, 3) := dk_182 0 254 (dk_at dksX1_mixDrawers_4 9 rfl rfl)
theorem dX1_mixDrawers_106 : decode cX1_mixDrawers 106 = .ok (.aload_n 0, 1) := dk_42 (dk_at dksX1_mixDrawers_4 12 rfl rfl)
theorem dX1_mixDrawers_107 : decode cX1_mixDrawers 107 = .ok (.aload_n 2, 1) := dk_44 (dk_at dksX1_mixDrawers_4 13 rfl rfl)
theorem dX1_mixDrawers_108 : decode cX1_mixDrawers 108 = .ok (.getfield 122, 3) := dk_180 0 122 (dk_at dksX1_mixDrawers_4 14 rfl rfl)
theorem dX1_mixDrawers_111 : decode cX1_mixDrawers 111 = .ok (.i2l, 1) := dk_133 (dk_at dksX1_mixDrawers_4 17 rfl rfl)
theorem dX1_mixDrawers_112 : decode cX1_mixDrawers 112 = .ok (.invokevirtual 254, 3) := dk_182 0 254 (dk_at dksX1_mixDrawers_4 18 rfl rfl)
theorem dX1_mixDrawers_115 : decode cX1_mixDrawers 115 = .ok (.aload_n 0, 1) := dk_42 (dk_at dksX1_mixDrawers_4 21 rfl rfl)
theorem dX1_mixDrawers_116 : decode cX1_mixDrawers 116 = .ok (.aload_n 2, 1) := dk_44 (dk_at dksX1_mixDrawers_4 22 rfl rfl)
theorem dX1_mixDrawers_117 : decode cX1_mixDrawers 117 = .ok (.getfield 117, 3) := dk_180 0 117 (dk_at dksX1_mixDrawers_5 0 rfl rfl)
theorem dX1_mixDrawers_120 : decode cX1_mixDrawers 120 = .ok (.i2l, 1) := dk_133 (dk_at dksX1_mixDrawers_5 3 rfl rfl)
theorem dX1_mixDrawers_121 : decode cX1_mixDrawers 121 = .ok (.invokevirtual 254, 3) := dk_182 0 254 (dk_at dksX1_mixDrawers_5 4 rfl rfl)
theorem dX1_mixDrawers_124 : decode cX1_mixDrawers 124 = .ok (.aload_n 0, 1) := dk_42 (dk_at dksX1_mixDrawers_5 7 rfl rfl)
theorem dX1_mixDrawers_125 : decode cX1_mixDrawers 125 = .ok (.aload_n 0, 1) := dk_42 (dk_at dksX1_mixDrawers_5 8 rfl rfl)
theorem dX1_mixDrawers_126 : decode cX1_mixDrawers 126 = .ok (.getfield 10, 3) := dk_180 0 10 (dk_at dksX1_mixDrawers_5 9 rfl rfl)
theorem dX1_mixDrawers_129 : decode cX1_mixDrawers 129 = .ok (.aload_n 2, 1) := dk_44 (dk_at dksX1_mixDrawers_5 12 rfl rfl)
theorem dX1_mixDrawers_130 : decode cX1_mixDrawers 130 = .ok (.getfield 258, 3) := dk_180 1 2 (dk_at dksX1_mixDrawers_5 13 rfl rfl)
theorem dX1_mixDrawers_133 : decode cX1_mixDrawers 133 = .ok (.getfield 262, 3) := dk_180 1 6 (dk_at dksX1_mixDrawers_5 16 rfl rfl)
theorem dX1_mixDrawers_136 : decode cX1_mixDrawers 136 = .ok (.invokevirtual 125, 3) := dk_182 0 125 (dk_at dksX1_mixDrawers_5 19 rfl rfl)
theorem dX1_mixDrawers_139 : decode cX1_mixDrawers 139 = .ok (.i2l, 1) := dk_133 (dk_at dksX1_mixDrawers_5 22 rfl rfl)
theorem dX1_mixDrawers_140 : decode cX1_mixDrawers 140 = .ok (.invokevirtual 254, 3) := dk_182 0 254 (dk_at dksX1_mixDrawers_6 0 rfl rfl)
theorem dX1_mixDrawers_143 : decode cX1_mixDrawers 143 = .ok (.iinc 1 1, 3) := dk_132 1 1 (dk_at dksX1_mixDrawers_6 3 rfl rfl)
theorem dX1_mixDrawers_146 : decode cX1_mixDrawers 146 = .ok (.goto (-81), 3) := dk_167 255 175 (dk_at dksX1_mixDrawers_6 6 rfl rfl)
theorem dX1_mixDrawers_149 : decode cX1_mixDrawers 149 = .ok (.return_, 1) := dk_177 (dk_at dksX1_mixDrawers_6 9 rfl rfl)
abbrev cX1_drawerTold : ByteArray := prog_1_method_24_code
def yX1_drawerTold : MethodName := ⟨RX1, "drawerTold", "(II)I"⟩
def dkwX1_drawerTold_5 : List UInt8 := [180, 0, 10, 180, 0, 64, 27, 46, 100, 172]
abbrev dktX1_drawerTold_5 : List UInt8 := dkwX1_drawerTold_5 ++ []
def dkwX1_drawerTold_4 : List UInt8 := [167, 0, 4, 3, 172, 42, 180, 0, 10, 27, 182, 0, 201, 172, 42, 180, 0, 10, 180, 0, 68, 4, 46, 42]
abbrev dktX1_drawerTold_4 : List UInt8 := dkwX1_drawerTold_4 ++ dktX1_drawerTold_5
def dkwX1_drawerTold_3 : List UInt8 := [180, 0, 10, 180, 0, 196, 182, 0, 199, 172, 42, 180, 0, 10, 180, 0, 113, 27, 51, 153, 0, 7, 4]
abbrev dktX1_drawerTold_3 : List UInt8 := dkwX1_drawerTold_3 ++ dktX1_drawerTold_4
def dkwX1_drawerTold_2 : List UInt8 := [42, 180, 0, 10, 180, 0, 64, 27, 46, 172, 42, 27, 182, 0, 193, 172, 42, 180, 0, 10, 27, 42]
abbrev dktX1_drawerTold_2 : List UInt8 := dkwX1_drawerTold_2 ++ dktX1_drawerTold_3
def dkwX1_drawerTold_1 : List UInt8 := [170, 0, 0, 0, 0, 0, 94, 0, 0, 0, 0, 0, 0, 0, 4, 0, 0, 0, 35, 0, 0, 0, 45, 0, 0, 0, 51, 0, 0, 0, 67, 0, 0, 0, 85]
abbrev dktX1_drawerTold_1 : List UInt8 := dkwX1_drawerTold_1 ++ dktX1_drawerTold_2
def dkwX1_drawerTold_0 : List UInt8 := [28]
abbrev dktX1_drawerTold_0 : List UInt8 := dkwX1_drawerTold_0 ++ dktX1_drawerTold_1
theorem dksX1_drawerTold_0 : cX1_drawerTold.data.toList.drop 0 = dktX1_drawerTold_0 := by decide +kernel
theorem dksX1_drawerTold_1 : cX1_drawerTold.data.toList.drop 1 = dktX1_drawerTold_1 := dk_seg dksX1_drawerTold_0 1 rfl rfl
theorem dksX1_drawerTold_2 : cX1_drawerTold.data.toList.drop 36 = dktX1_drawerTold_2 := dk_seg dksX1_drawerTold_1 35 rfl rfl
theorem dksX1_drawerTold_3 : cX1_drawerTold.data.toList.drop 58 = dktX1_drawerTold_3 := dk_seg dksX1_drawerTold_2 22 rfl rfl
theorem dksX1_drawerTold_4 : cX1_drawerTold.data.toList.drop 81 = dktX1_drawerTold_4 := dk_seg dksX1_drawerTold_3 23 rfl rfl
theorem dksX1_drawerTold_5 : cX1_drawerTold.data.toList.drop 105 = dktX1_drawerTold_5 := dk_seg dksX1_drawerTold_4 24 rfl rfl
theorem dX1_drawerTold_0 : decode cX1_drawerTold 0 = .ok (.iload_n 2, 1) := dk_28 (dk_at dksX1_drawerTold_0 0 rfl rfl)
theorem dX1_drawerTold_1 : decode cX1_drawerTold 1 = .ok (.tableswitch 94 0 4 #[35, 45, 51, 67, 85], 35) := by decide +kernel
theorem dX1_drawerTold_36 : decode cX1_drawerTold 36 = .ok (.aload_n 0, 1) := dk_42 (dk_at dksX1_drawerTold_2 0 rfl rfl)
theorem dX1_drawerTold_37 : decode cX1_drawerTold 37 = .ok (.getfield 10, 3) := dk_180 0 10 (dk_at dksX1_drawerTold_2 1 rfl rfl)
theorem dX1_drawerTold_40 : decode cX1_drawerTold 40 = .ok (.getfield 64, 3) := dk_180 0 64 (dk_at dksX1_drawerTold_2 4 rfl rfl)
theorem dX1_drawerTold_43 : decode cX1_drawerTold 43 = .ok (.iload_n 1, 1) := dk_27 (dk_at dksX1_drawerTold_2 7 rfl rfl)
theorem dX1_drawerTold_44 : decode cX1_drawerTold 44 = .ok (.iaload, 1) := dk_46 (dk_at dksX1_drawerTold_2 8 rfl rfl)
theorem dX1_drawerTold_45 : decode cX1_drawerTold 45 = .ok (.ireturn, 1) := dk_172 (dk_at dksX1_drawerTold_2 9 rfl rfl)
theorem dX1_drawerTold_46 : decode cX1_drawerTold 46 = .ok (.aload_n 0, 1) := dk_42 (dk_at dksX1_drawerTold_2 10 rfl rfl)
theorem dX1_drawerTold_47 : decode cX1_drawerTold 47 = .ok (.iload_n 1, 1) := dk_27 (dk_at dksX1_drawerTold_2 11 rfl rfl)
theorem dX1_drawerTold_48 : decode cX1_drawerTold 48 = .ok (.invokevirtual 193, 3) := dk_182 0 193 (dk_at dksX1_drawerTold_2 12 rfl rfl)
theorem dX1_drawerTold_51 : decode cX1_drawerTold 51 = .ok (.ireturn, 1) := dk_172 (dk_at dksX1_drawerTold_2 15 rfl rfl)
theorem dX1_drawerTold_52 : decode cX1_drawerTold 52 = .ok (.aload_n 0, 1) := dk_42 (dk_at dksX1_drawerTold_2 16 rfl rfl)
theorem dX1_drawerTold_53 : decode cX1_drawerTold 53 = .ok (.getfield 10, 3) := dk_180 0 10 (dk_at dksX1_drawerTold_2 17 rfl rfl)
theorem dX1_drawerTold_56 : decode cX1_drawerTold 56 = .ok (.iload_n 1, 1) := dk_27 (dk_at dksX1_drawerTold_2 20 rfl rfl)
theorem dX1_drawerTold_57 : decode cX1_drawerTold 57 = .ok (.aload_n 0, 1) := dk_42 (dk_at dksX1_drawerTold_2 21 rfl rfl)
theorem dX1_drawerTold_58 : decode cX1_drawerTold 58 = .ok (.getfield 10, 3) := dk_180 0 10 (dk_at dksX1_drawerTold_3 0 rfl rfl)
theorem dX1_drawerTold_61 : decode cX1_drawerTold 61 = .ok (.getfield 196, 3) := dk_180 0 196 (dk_at dksX1_drawerTold_3 3 rfl rfl)
theorem dX1_drawerTold_64 : decode cX1_drawerTold 64 = .ok (.invokevirtual 199, 3) := dk_182 0 199 (dk_at dksX1_drawerTold_3 6 rfl rfl)
theorem dX1_drawerTold_67 : decode cX1_drawerTold 67 = .ok (.ireturn, 1) := dk_172 (dk_at dksX1_drawerTold_3 9 rfl rfl)
theorem dX1_drawerTold_68 : decode cX1_drawerTold 68 = .ok (.aload_n 0, 1) := dk_42 (dk_at dksX1_drawerTold_3 10 rfl rfl)
theorem dX1_drawerTold_69 : decode cX1_drawerTold 69 = .ok (.getfield 10, 3) := dk_180 0 10 (dk_at dksX1_drawerTold_3 11 rfl rfl)
theorem dX1_drawerTold_72 : decode cX1_drawerTold 72 = .ok (.getfield 113, 3) := dk_180 0 113 (dk_at dksX1_drawerTold_3 14 rfl rfl)
theorem dX1_drawerTold_75 : decode cX1_drawerTold 75 = .ok (.iload_n 1, 1) := dk_27 (dk_at dksX1_drawerTold_3 17 rfl rfl)
theorem dX1_drawerTold_76 : decode cX1_drawerTold 76 = .ok (.baload, 1) := dk_51 (dk_at dksX1_drawerTold_3 18 rfl rfl)
theorem dX1_drawerTold_77 : decode cX1_drawerTold 77 = .ok (.ifCond .eq 7, 3) := dk_153 0 7 (dk_at dksX1_drawerTold_3 19 rfl rfl)
theorem dX1_drawerTold_80 : decode cX1_drawerTold 80 = .ok (.iconst 1, 1) := dk_4 (dk_at dksX1_drawerTold_3 22 rfl rfl)
theorem dX1_drawerTold_81 : decode cX1_drawerTold 81 = .ok (.goto 4, 3) := dk_167 0 4 (dk_at dksX1_drawerTold_4 0 rfl rfl)
theorem dX1_drawerTold_84 : decode cX1_drawerTold 84 = .ok (.iconst 0, 1) := dk_3 (dk_at dksX1_drawerTold_4 3 rfl rfl)
theorem dX1_drawerTold_85 : decode cX1_drawerTold 85 = .ok (.ireturn, 1) := dk_172 (dk_at dksX1_drawerTold_4 4 rfl rfl)
theorem dX1_drawerTold_86 : decode cX1_drawerTold 86 = .ok (.aload_n 0, 1) := dk_42 (dk_at dksX1_drawerTold_4 5 rfl rfl)
theorem dX1_drawerTold_87 : decode cX1_drawerTold 87 = .ok (.getfield 10, 3) := dk_180 0 10 (dk_at dksX1_drawerTold_4 6 rfl rfl)
theorem dX1_drawerTold_90 : decode cX1_drawerTold 90 = .ok (.iload_n 1, 1) := dk_27 (dk_at dksX1_drawerTold_4 9 rfl rfl)
theorem dX1_drawerTold_91 : decode cX1_drawerTold 91 = .ok (.invokevirtual 201, 3) := dk_182 0 201 (dk_at dksX1_drawerTold_4 10 rfl rfl)
theorem dX1_drawerTold_94 : decode cX1_drawerTold 94 = .ok (.ireturn, 1) := dk_172 (dk_at dksX1_drawerTold_4 13 rfl rfl)
theorem dX1_drawerTold_95 : decode cX1_drawerTold 95 = .ok (.aload_n 0, 1) := dk_42 (dk_at dksX1_drawerTold_4 14 rfl rfl)
theorem dX1_drawerTold_96 : decode cX1_drawerTold 96 = .ok (.getfield 10, 3) := dk_180 0 10 (dk_at dksX1_drawerTold_4 15 rfl rfl)
theorem dX1_drawerTold_99 : decode cX1_drawerTold 99 = .ok (.getfield 68, 3) := dk_180 0 68 (dk_at dksX1_drawerTold_4 18 rfl rfl)
theorem dX1_drawerTold_102 : decode cX1_drawerTold 102 = .ok (.iconst 1, 1) := dk_4 (dk_at dksX1_drawerTold_4 21 rfl rfl)
theorem dX1_drawerTold_103 : decode cX1_drawerTold 103 = .ok (.iaload, 1) := dk_46 (dk_at dksX1_drawerTold_4 22 rfl rfl)
theorem dX1_drawerTold_104 : decode cX1_drawerTold 104 = .ok (.aload_n 0, 1) := dk_42 (dk_at dksX1_drawerTold_4 23 rfl rfl)
theorem dX1_drawerTold_105 : decode cX1_drawerTold 105 = .ok (.getfield 10, 3) := dk_180 0 10 (dk_at dksX1_drawerTold_5 0 rfl rfl)
theorem dX1_drawerTold_108 : decode cX1_drawerTold 108 = .ok (.getfield 64, 3) := dk_180 0 64 (dk_at dksX1_drawerTold_5 3 rfl rfl)
theorem dX1_drawerTold_111 : decode cX1_drawerTold 111 = .ok (.iload_n 1, 1) := dk_27 (dk_at dksX1_drawerTold_5 6 rfl rfl)
theorem dX1_drawerTold_112 : decode cX1_drawerTold 112 = .ok (.iaload, 1) := dk_46 (dk_at dksX1_drawerTold_5 7 rfl rfl)
theorem dX1_drawerTold_113 : decode cX1_drawerTold 113 = .ok (.isub, 1) := dk_100 (dk_at dksX1_drawerTold_5 8 rfl rfl)
theorem dX1_drawerTold_114 : decode cX1_drawerTold 114 = .ok (.ireturn, 1) := dk_172 (dk_at dksX1_drawerTold_5 9 rfl rfl)
abbrev cX1_itemsIn : ByteArray := prog_1_method_23_code
def yX1_itemsIn : MethodName := ⟨RX1, "itemsIn", "(I)I"⟩
def dkwX1_itemsIn_2 : List UInt8 := [132, 3, 1, 167, 255, 210, 28, 172]
abbrev dktX1_itemsIn_2 : List UInt8 := dkwX1_itemsIn_2 ++ []
def dkwX1_itemsIn_1 : List UInt8 := [180, 0, 89, 29, 182, 0, 182, 192, 0, 118, 180, 0, 117, 27, 160, 0, 7, 4, 167, 0, 4, 3, 96, 61]
abbrev dktX1_itemsIn_1 : List UInt8 := dkwX1_itemsIn_1 ++ dktX1_itemsIn_2
def dkwX1_itemsIn_0 : List UInt8 := [3, 61, 3, 62, 29, 42, 180, 0, 10, 180, 0, 89, 182, 0, 35, 162, 0, 38, 28, 42, 180, 0, 10]
abbrev dktX1_itemsIn_0 : List UInt8 := dkwX1_itemsIn_0 ++ dktX1_itemsIn_1
theorem dksX1_itemsIn_0 : cX1_itemsIn.data.toList.drop 0 = dktX1_itemsIn_0 := by decide +kernel
theorem dksX1_itemsIn_1 : cX1_itemsIn.data.toList.drop 23 = dktX1_itemsIn_1 := dk_seg dksX1_itemsIn_0 23 rfl rfl
theorem dksX1_itemsIn_2 : cX1_itemsIn.data.toList.drop 47 = dktX1_itemsIn_2 := dk_seg dksX1_itemsIn_1 24 rfl rfl
theorem dX1_itemsIn_0 : decode cX1_itemsIn 0 = .ok (.iconst 0, 1) := dk_3 (dk_at dksX1_itemsIn_0 0 rfl rfl)
theorem dX1_itemsIn_1 : decode cX1_itemsIn 1 = .ok (.istore_n 2, 1) := dk_61 (dk_at dksX1_itemsIn_0 1 rfl rfl)
theorem dX1_itemsIn_2 : decode cX1_itemsIn 2 = .ok (.iconst 0, 1) := dk_3 (dk_at dksX1_itemsIn_0 2 rfl rfl)
theorem dX1_itemsIn_3 : decode cX1_itemsIn 3 = .ok (.istore_n 3, 1) := dk_62 (dk_at dksX1_itemsIn_0 3 rfl rfl)
theorem dX1_itemsIn_4 : decode cX1_itemsIn 4 = .ok (.iload_n 3, 1) := dk_29 (dk_at dksX1_itemsIn_0 4 rfl rfl)
theorem dX1_itemsIn_5 : decode cX1_itemsIn 5 = .ok (.aload_n 0, 1) := dk_42 (dk_at dksX1_itemsIn_0 5 rfl rfl)
theorem dX1_itemsIn_6 : decode cX1_itemsIn 6 = .ok (.getfield 10, 3) := dk_180 0 10 (dk_at dksX1_itemsIn_0 6 rfl rfl)
theorem dX1_itemsIn_9 : decode cX1_itemsIn 9 = .ok (.getfield 89, 3) := dk_180 0 89 (dk_at dksX1_itemsIn_0 9 rfl rfl)
theorem dX1_itemsIn_12 : decode cX1_itemsIn 12 = .ok (.invokevirtual 35, 3) := dk_182 0 35 (dk_at dksX1_itemsIn_0 12 rfl rfl)
theorem dX1_itemsIn_15 : decode cX1_itemsIn 15 = .ok (.if_icmp .ge 38, 3) := dk_162 0 38 (dk_at dksX1_itemsIn_0 15 rfl rfl)
theorem dX1_itemsIn_18 : decode cX1_itemsIn 18 = .ok (.iload_n 2, 1) := dk_28 (dk_at dksX1_itemsIn_0 18 rfl rfl)
theorem dX1_itemsIn_19 : decode cX1_itemsIn 19 = .ok (.aload_n 0, 1) := dk_42 (dk_at dksX1_itemsIn_0 19 rfl rfl)
theorem dX1_itemsIn_20 : decode cX1_itemsIn 20 = .ok (.getfield 10, 3) := dk_180 0 10 (dk_at dksX1_itemsIn_0 20 rfl rfl)
theorem dX1_itemsIn_23 : decode cX1_itemsIn 23 = .ok (.getfield 89, 3) := dk_180 0 89 (dk_at dksX1_itemsIn_1 0 rfl rfl)
theorem dX1_itemsIn_26 : decode cX1_itemsIn 26 = .ok (.iload_n 3, 1) := dk_29 (dk_at dksX1_itemsIn_1 3 rfl rfl)
theorem dX1_itemsIn_27 : decode cX1_itemsIn 27 = .ok (.invokevirtual 182, 3) := dk_182 0 182 (dk_at dksX1_itemsIn_1 4 rfl rfl)
theorem dX1_itemsIn_30 : decode cX1_itemsIn 30 = .ok (.checkcast 118, 3) := dk_192 0 118 (dk_at dksX1_itemsIn_1 7 rfl rfl)
theorem dX1_itemsIn_33 : decode cX1_itemsIn 33 = .ok (.getfield 117, 3) := dk_180 0 117 (dk_at dksX1_itemsIn_1 10 rfl rfl)
theorem dX1_itemsIn_36 : decode cX1_itemsIn 36 = .ok (.iload_n 1, 1) := dk_27 (dk_at dksX1_itemsIn_1 13 rfl rfl)
theorem dX1_itemsIn_37 : decode cX1_itemsIn 37 = .ok (.if_icmp .ne 7, 3) := dk_160 0 7 (dk_at dksX1_itemsIn_1 14 rfl rfl)
theorem dX1_itemsIn_40 : decode cX1_itemsIn 40 = .ok (.iconst 1, 1) := dk_4 (dk_at dksX1_itemsIn_1 17 rfl rfl)
theorem dX1_itemsIn_41 : decode cX1_itemsIn 41 = .ok (.goto 4, 3) := dk_167 0 4 (dk_at dksX1_itemsIn_1 18 rfl rfl)
theorem dX1_itemsIn_44 : decode cX1_itemsIn 44 = .ok (.iconst 0, 1) := dk_3 (dk_at dksX1_itemsIn_1 21 rfl rfl)
theorem dX1_itemsIn_45 : decode cX1_itemsIn 45 = .ok (.iadd, 1) := dk_96 (dk_at dksX1_itemsIn_1 22 rfl rfl)
theorem dX1_itemsIn_46 : decode cX1_itemsIn 46 = .ok (.istore_n 2, 1) := dk_61 (dk_at dksX1_itemsIn_1 23 rfl rfl)
theorem dX1_itemsIn_47 : decode cX1_itemsIn 47 = .ok (.iinc 3 1, 3) := dk_132 3 1 (dk_at dksX1_itemsIn_2 0 rfl rfl)
theorem dX1_itemsIn_50 : decode cX1_itemsIn 50 = .ok (.goto (-46), 3) := dk_167 255 210 (dk_at dksX1_itemsIn_2 3 rfl rfl)
theorem dX1_itemsIn_53 : decode cX1_itemsIn 53 = .ok (.iload_n 2, 1) := dk_28 (dk_at dksX1_itemsIn_2 6 rfl rfl)
theorem dX1_itemsIn_54 : decode cX1_itemsIn 54 = .ok (.ireturn, 1) := dk_172 (dk_at dksX1_itemsIn_2 7 rfl rfl)
abbrev cX1_putTold : ByteArray := prog_1_method_34_code
def yX1_putTold : MethodName := ⟨RX1, "putTold", "(II)I"⟩
def dkwX1_putTold_1 : List UInt8 := [180, 0, 10, 180, 0, 64, 27, 92, 46, 28, 100, 79, 29, 172]
abbrev dktX1_putTold_1 : List UInt8 := dkwX1_putTold_1 ++ []
def dkwX1_putTold_0 : List UInt8 := [42, 180, 0, 10, 180, 0, 64, 27, 92, 46, 28, 96, 79, 42, 180, 0, 10, 182, 0, 210, 62, 42]
abbrev dktX1_putTold_0 : List UInt8 := dkwX1_putTold_0 ++ dktX1_putTold_1
theorem dksX1_putTold_0 : cX1_putTold.data.toList.drop 0 = dktX1_putTold_0 := by decide +kernel
theorem dksX1_putTold_1 : cX1_putTold.data.toList.drop 22 = dktX1_putTold_1 := dk_seg dksX1_putTold_0 22 rfl rfl
theorem dX1_putTold_0 : decode cX1_putTold 0 = .ok (.aload_n 0, 1) := dk_42 (dk_at dksX1_putTold_0 0 rfl rfl)
theorem dX1_putTold_1 : decode cX1_putTold 1 = .ok (.getfield 10, 3) := dk_180 0 10 (dk_at dksX1_putTold_0 1 rfl rfl)
theorem dX1_putTold_4 : decode cX1_putTold 4 = .ok (.getfield 64, 3) := dk_180 0 64 (dk_at dksX1_putTold_0 4 rfl rfl)
theorem dX1_putTold_7 : decode cX1_putTold 7 = .ok (.iload_n 1, 1) := dk_27 (dk_at dksX1_putTold_0 7 rfl rfl)
theorem dX1_putTold_8 : decode cX1_putTold 8 = .ok (.dup2, 1) := dk_92 (dk_at dksX1_putTold_0 8 rfl rfl)
theorem dX1_putTold_9 : decode cX1_putTold 9 = .ok (.iaload, 1) := dk_46 (dk_at dksX1_putTold_0 9 rfl rfl)
theorem dX1_putTold_10 : decode cX1_putTold 10 = .ok (.iload_n 2, 1) := dk_28 (dk_at dksX1_putTold_0 10 rfl rfl)
theorem dX1_putTold_11 : decode cX1_putTold 11 = .ok (.iadd, 1) := dk_96 (dk_at dksX1_putTold_0 11 rfl rfl)
theorem dX1_putTold_12 : decode cX1_putTold 12 = .ok (.iastore, 1) := dk_79 (dk_at dksX1_putTold_0 12 rfl rfl)
theorem dX1_putTold_13 : decode cX1_putTold 13 = .ok (.aload_n 0, 1) := dk_42 (dk_at dksX1_putTold_0 13 rfl rfl)
theorem dX1_putTold_14 : decode cX1_putTold 14 = .ok (.getfield 10, 3) := dk_180 0 10 (dk_at dksX1_putTold_0 14 rfl rfl)
theorem dX1_putTold_17 : decode cX1_putTold 17 = .ok (.invokevirtual 210, 3) := dk_182 0 210 (dk_at dksX1_putTold_0 17 rfl rfl)
theorem dX1_putTold_20 : decode cX1_putTold 20 = .ok (.istore_n 3, 1) := dk_62 (dk_at dksX1_putTold_0 20 rfl rfl)
theorem dX1_putTold_21 : decode cX1_putTold 21 = .ok (.aload_n 0, 1) := dk_42 (dk_at dksX1_putTold_0 21 rfl rfl)
theorem dX1_putTold_22 : decode cX1_putTold 22 = .ok (.getfield 10, 3) := dk_180 0 10 (dk_at dksX1_putTold_1 0 rfl rfl)
theorem dX1_putTold_25 : decode cX1_putTold 25 = .ok (.getfield 64, 3) := dk_180 0 64 (dk_at dksX1_putTold_1 3 rfl rfl)
theorem dX1_putTold_28 : decode cX1_putTold 28 = .ok (.iload_n 1, 1) := dk_27 (dk_at dksX1_putTold_1 6 rfl rfl)
theorem dX1_putTold_29 : decode cX1_putTold 29 = .ok (.dup2, 1) := dk_92 (dk_at dksX1_putTold_1 7 rfl rfl)
theorem dX1_putTold_30 : decode cX1_putTold 30 = .ok (.iaload, 1) := dk_46 (dk_at dksX1_putTold_1 8 rfl rfl)
theorem dX1_putTold_31 : decode cX1_putTold 31 = .ok (.iload_n 2, 1) := dk_28 (dk_at dksX1_putTold_1 9 rfl rfl)
theorem dX1_putTold_32 : decode cX1_putTold 32 = .ok (.isub, 1) := dk_100 (dk_at dksX1_putTold_1 10 rfl rfl)
theorem dX1_putTold_33 : decode cX1_putTold 33 = .ok (.iastore, 1) := dk_79 (dk_at dksX1_putTold_1 11 rfl rfl)
theorem dX1_putTold_34 : decode cX1_putTold 34 = .ok (.iload_n 3, 1) := dk_29 (dk_at dksX1_putTold_1 12 rfl rfl)
theorem dX1_putTold_35 : decode cX1_putTold 35 = .ok (.ireturn, 1) := dk_172 (dk_at dksX1_putTold_1 13 rfl rfl)
abbrev cX1_drawerFor : ByteArray := prog_1_method_36_code
def yX1_drawerFor : MethodName := ⟨RX1, "drawerFor", "(I)I"⟩
def dkwX1_drawerFor_5 : List UInt8 := [21, 6, 153, 0, 8, 21, 5, 167, 0, 4, 29, 62, 132, 4, 1, 167, 255, 130, 28, 172]
abbrev dktX1_drawerFor_5 : List UInt8 := dkwX1_drawerFor_5 ++ []
def dkwX1_drawerFor_4 : List UInt8 := [46, 162, 0, 7, 4, 167, 0, 4, 3, 54, 6, 21, 6, 153, 0, 8, 21, 4, 167, 0, 4, 28, 61]
abbrev dktX1_drawerFor_4 : List UInt8 := dkwX1_drawerFor_4 ++ dktX1_drawerFor_5
def dkwX1_drawerFor_3 : List UInt8 := [21, 5, 29, 160, 0, 29, 42, 180, 0, 10, 180, 0, 64, 21, 4, 46, 42, 180, 0, 10, 180, 0, 64, 28]
abbrev dktX1_drawerFor_3 : List UInt8 := dkwX1_drawerFor_3 ++ dktX1_drawerFor_4
def dkwX1_drawerFor_2 : List UInt8 := [163, 0, 82, 42, 21, 4, 27, 182, 0, 231, 54, 5, 28, 2, 159, 0, 37, 21, 5, 29, 161, 0, 31]
abbrev dktX1_drawerFor_2 : List UInt8 := dkwX1_drawerFor_2 ++ dktX1_drawerFor_3
def dkwX1_drawerFor_1 : List UInt8 := [154, 0, 106, 42, 180, 0, 10, 180, 0, 64, 21, 4, 46, 27, 96, 42, 180, 0, 10, 180, 0, 68, 4, 46]
abbrev dktX1_drawerFor_1 : List UInt8 := dkwX1_drawerFor_1 ++ dktX1_drawerFor_2
def dkwX1_drawerFor_0 : List UInt8 := [2, 61, 3, 62, 3, 54, 4, 21, 4, 16, 12, 162, 0, 125, 42, 180, 0, 10, 180, 0, 113, 21, 4, 51]
abbrev dktX1_drawerFor_0 : List UInt8 := dkwX1_drawerFor_0 ++ dktX1_drawerFor_1
theorem dksX1_drawerFor_0 : cX1_drawerFor.data.toList.drop 0 = dktX1_drawerFor_0 := by decide +kernel
theorem dksX1_drawerFor_1 : cX1_drawerFor.data.toList.drop 24 = dktX1_drawerFor_1 := dk_seg dksX1_drawerFor_0 24 rfl rfl
theorem dksX1_drawerFor_2 : cX1_drawerFor.data.toList.drop 48 = dktX1_drawerFor_2 := dk_seg dksX1_drawerFor_1 24 rfl rfl
theorem dksX1_drawerFor_3 : cX1_drawerFor.data.toList.drop 71 = dktX1_drawerFor_3 := dk_seg dksX1_drawerFor_2 23 rfl rfl
theorem dksX1_drawerFor_4 : cX1_drawerFor.data.toList.drop 95 = dktX1_drawerFor_4 := dk_seg dksX1_drawerFor_3 24 rfl rfl
theorem dksX1_drawerFor_5 : cX1_drawerFor.data.toList.drop 118 = dktX1_drawerFor_5 := dk_seg dksX1_drawerFor_4 23 rfl rfl
theorem dX1_drawerFor_0 : decode cX1_drawerFor 0 = .ok (.iconst (-1), 1) := dk_2 (dk_at dksX1_drawerFor_0 0 rfl rfl)
theorem dX1_drawerFor_1 : decode cX1_drawerFor 1 = .ok (.istore_n 2, 1) := dk_61 (dk_at dksX1_drawerFor_0 1 rfl rfl)
theorem dX1_drawerFor_2 : decode cX1_drawerFor 2 = .ok (.iconst 0, 1) := dk_3 (dk_at dksX1_drawerFor_0 2 rfl rfl)
theorem dX1_drawerFor_3 : decode cX1_drawerFor 3 = .ok (.istore_n 3, 1) := dk_62 (dk_at dksX1_drawerFor_0 3 rfl rfl)
theorem dX1_drawerFor_4 : decode cX1_drawerFor 4 = .ok (.iconst 0, 1) := dk_3 (dk_at dksX1_drawerFor_0 4 rfl rfl)
theorem dX1_drawerFor_5 : decode cX1_drawerFor 5 = .ok (.istore 4, 2) := dk_54 4 (dk_at dksX1_drawerFor_0 5 rfl rfl)
theorem dX1_drawerFor_7 : decode cX1_drawerFor 7 = .ok (.iload 4, 2) := dk_21 4 (dk_at dksX1_drawerFor_0 7 rfl rfl)
theorem dX1_drawerFor_9 : decode cX1_drawerFor 9 = .ok (.bipush 12, 2) := dk_16 12 (dk_at dksX1_drawerFor_0 9 rfl rfl)
theorem dX1_drawerFor_11 : decode cX1_drawerFor 11 = .ok (.if_icmp .ge 125, 3) := dk_162 0 125 (dk_at dksX1_drawerFor_0 11 rfl rfl)
theorem dX1_drawerFor_14 : decode cX1_drawerFor 14 = .ok (.aload_n 0, 1) := dk_42 (dk_at dksX1_drawerFor_0 14 rfl rfl)
theorem dX1_drawerFor_15 : decode cX1_drawerFor 15 = .ok (.getfield 10, 3) := dk_180 0 10 (dk_at dksX1_drawerFor_0 15 rfl rfl)
theorem dX1_drawerFor_18 : decode cX1_drawerFor 18 = .ok (.getfield 113, 3) := dk_180 0 113 (dk_at dksX1_drawerFor_0 18 rfl rfl)
theorem dX1_drawerFor_21 : decode cX1_drawerFor 21 = .ok (.iload 4, 2) := dk_21 4 (dk_at dksX1_drawerFor_0 21 rfl rfl)
theorem dX1_drawerFor_23 : decode cX1_drawerFor 23 = .ok (.baload, 1) := dk_51 (dk_at dksX1_drawerFor_0 23 rfl rfl)
theorem dX1_drawerFor_24 : decode cX1_drawerFor 24 = .ok (.ifCond .ne 106, 3) := dk_154 0 106 (dk_at dksX1_drawerFor_1 0 rfl rfl)
theorem dX1_drawerFor_27 : decode cX1_drawerFor 27 = .ok (.aload_n 0, 1) := dk_42 (dk_at dksX1_drawerFor_1 3 rfl rfl)
theorem dX1_drawerFor_28 : decode cX1_drawerFor 28 = .ok (.getfield 10, 3) := dk_180 0 10 (dk_at dksX1_drawerFor_1 4 rfl rfl)
theorem dX1_drawerFor_31 : decode cX1_drawerFor 31 = .ok (.getfield 64, 3) := dk_180 0 64 (dk_at dksX1_drawerFor_1 7 rfl rfl)
theorem dX1_drawerFor_34 : decode cX1_drawerFor 34 = .ok (.iload 4, 2) := dk_21 4 (dk_at dksX1_drawerFor_1 10 rfl rfl)
theorem dX1_drawerFor_36 : decode cX1_drawerFor 36 = .ok (.iaload, 1) := dk_46 (dk_at dksX1_drawerFor_1 12 rfl rfl)
theorem dX1_drawerFor_37 : decode cX1_drawerFor 37 = .ok (.iload_n 1, 1) := dk_27 (dk_at dksX1_drawerFor_1 13 rfl rfl)
theorem dX1_drawerFor_38 : decode cX1_drawerFor 38 = .ok (.iadd, 1) := dk_96 (dk_at dksX1_drawerFor_1 14 rfl rfl)
theorem dX1_drawerFor_39 : decode cX1_drawerFor 39 = .ok (.aload_n 0, 1) := dk_42 (dk_at dksX1_drawerFor_1 15 rfl rfl)
theorem dX1_drawerFor_40 : decode cX1_drawerFor 40 = .ok (.getfield 10, 3) := dk_180 0 10 (dk_at dksX1_drawerFor_1 16 rfl rfl)
theorem dX1_drawerFor_43 : decode cX1_drawerFor 43 = .ok (.getfield 68, 3) := dk_180 0 68 (dk_at dksX1_drawerFor_1 19 rfl rfl)
theorem dX1_drawerFor_46 : decode cX1_drawerFor 46 = .ok (.iconst 1, 1) := dk_4 (dk_at dksX1_drawerFor_1 22 rfl rfl)
theorem dX1_drawerFor_47 : decode cX1_drawerFor 47 = .ok (.iaload, 1) := dk_46 (dk_at dksX1_drawerFor_1 23 rfl rfl)
theorem dX1_drawerFor_48 : decode cX1_drawerFor 48 = .ok (.if_icmp .gt 82, 3) := dk_163 0 82 (dk_at dksX1_drawerFor_2 0 rfl rfl)
theorem dX1_drawerFor_51 : decode cX1_drawerFor 51 = .ok (.aload_n 0, 1) := dk_42 (dk_at dksX1_drawerFor_2 3 rfl rfl)
theorem dX1_drawerFor_52 : decode cX1_drawerFor 52 = .ok (.iload 4, 2) := dk_21 4 (dk_at dksX1_drawerFor_2 4 rfl rfl)
theorem dX1_drawerFor_54 : decode cX1_drawerFor 54 = .ok (.iload_n 1, 1) := dk_27 (dk_at dksX1_drawerFor_2 6 rfl rfl)
theorem dX1_drawerFor_55 : decode cX1_drawerFor 55 = .ok (.invokevirtual 231, 3) := dk_182 0 231 (dk_at dksX1_drawerFor_2 7 rfl rfl)
theorem dX1_drawerFor_58 : decode cX1_drawerFor 58 = .ok (.istore 5, 2) := dk_54 5 (dk_at dksX1_drawerFor_2 10 rfl rfl)
theorem dX1_drawerFor_60 : decode cX1_drawerFor 60 = .ok (.iload_n 2, 1) := dk_28 (dk_at dksX1_drawerFor_2 12 rfl rfl)
theorem dX1_drawerFor_61 : decode cX1_drawerFor 61 = .ok (.iconst (-1), 1) := dk_2 (dk_at dksX1_drawerFor_2 13 rfl rfl)
theorem dX1_drawerFor_62 : decode cX1_drawerFor 62 = .ok (.if_icmp .eq 37, 3) := dk_159 0 37 (dk_at dksX1_drawerFor_2 14 rfl rfl)
theorem dX1_drawerFor_65 : decode cX1_drawerFor 65 = .ok (.iload 5, 2) := dk_21 5 (dk_at dksX1_drawerFor_2 17 rfl rfl)
theorem dX1_drawerFor_67 : decode cX1_drawerFor 67 = .ok (.iload_n 3, 1) := dk_29 (dk_at dksX1_drawerFor_2 19 rfl rfl)
theorem dX1_drawerFor_68 : decode cX1_drawerFor 68 = .ok (.if_icmp .lt 31, 3) := dk_161 0 31 (dk_at dksX1_drawerFor_2 20 rfl rfl)
theorem dX1_drawerFor_71 : decode cX1_drawerFor 71 = .ok (.iload 5, 2) := dk_21 5 (dk_at dksX1_drawerFor_3 0 rfl rfl)
theorem dX1_drawerFor_73 : decode cX1_drawerFor 73 = .ok (.iload_n 3, 1) := dk_29 (dk_at dksX1_drawerFor_3 2 rfl rfl)
theorem dX1_drawerFor_74 : decode cX1_drawerFor 74 = .ok (.if_icmp .ne 29, 3) := dk_160 0 29 (dk_at dksX1_drawerFor_3 3 rfl rfl)
theorem dX1_drawerFor_77 : decode cX1_drawerFor 77 = .ok (.aload_n 0, 1) := dk_42 (dk_at dksX1_drawerFor_3 6 rfl rfl)
theorem dX1_drawerFor_78 : decode cX1_drawerFor 78 = .ok (.getfield 10, 3) := dk_180 0 10 (dk_at dksX1_drawerFor_3 7 rfl rfl)
theorem dX1_drawerFor_81 : decode cX1_drawerFor 81 = .ok (.getfield 64, 3) := dk_180 0 64 (dk_at dksX1_drawerFor_3 10 rfl rfl)
theorem dX1_drawerFor_84 : decode cX1_drawerFor 84 = .ok (.iload 4, 2) := dk_21 4 (dk_at dksX1_drawerFor_3 13 rfl rfl)
theorem dX1_drawerFor_86 : decode cX1_drawerFor 86 = .ok (.iaload, 1) := dk_46 (dk_at dksX1_drawerFor_3 15 rfl rfl)
theorem dX1_drawerFor_87 : decode cX1_drawerFor 87 = .ok (.aload_n 0, 1) := dk_42 (dk_at dksX1_drawerFor_3 16 rfl rfl)
theorem dX1_drawerFor_88 : decode cX1_drawerFor 88 = .ok (.getfield 10, 3) := dk_180 0 10 (dk_at dksX1_drawerFor_3 17 rfl rfl)
theorem dX1_drawerFor_91 : decode cX1_drawerFor 91 = .ok (.getfield 64, 3) := dk_180 0 64 (dk_at dksX1_drawerFor_3 20 rfl rfl)
theorem dX1_drawerFor_94 : decode cX1_drawerFor 94 = .ok (.iload_n 2, 1) := dk_28 (dk_at dksX1_drawerFor_3 23 rfl rfl)
theorem dX1_drawerFor_95 : decode cX1_drawerFor 95 = .ok (.iaload, 1) := dk_46 (dk_at dksX1_drawerFor_4 0 rfl rfl)
theorem dX1_drawerFor_96 : decode cX1_drawerFor 96 = .ok (.if_icmp .ge 7, 3) := dk_162 0 7 (dk_at dksX1_drawerFor_4 1 rfl rfl)
theorem dX1_drawerFor_99 : decode cX1_drawerFor 99 = .ok (.iconst 1, 1) := dk_4 (dk_at dksX1_drawerFor_4 4 rfl rfl)
theorem dX1_drawerFor_100 : decode cX1_drawerFor 100 = .ok (.goto 4, 3) := dk_167 0 4 (dk_at dksX1_drawerFor_4 5 rfl rfl)
theorem dX1_drawerFor_103 : decode cX1_drawerFor 103 = .ok (.iconst 0, 1) := dk_3 (dk_at dksX1_drawerFor_4 8 rfl rfl)
theorem dX1_drawerFor_104 : decode cX1_drawerFor 104 = .ok (.istore 6, 2) := dk_54 6 (dk_at dksX1_drawerFor_4 9 rfl rfl)
theorem dX1_drawerFor_106 : decode cX1_drawerFor 106 = .ok (.iload 6, 2) := dk_21 6 (dk_at dksX1_drawerFor_4 11 rfl rfl)
theorem dX1_drawerFor_108 : decode cX1_drawerFor 108 = .ok (.ifCond .eq 8, 3) := dk_153 0 8 (dk_at dksX1_drawerFor_4 13 rfl rfl)
theorem dX1_drawerFor_111 : decode cX1_drawerFor 111 = .ok (.iload 4, 2) := dk_21 4 (dk_at dksX1_drawerFor_4 16 rfl rfl)
theorem dX1_drawerFor_113 : decode cX1_drawerFor 113 = .ok (.goto 4, 3) := dk_167 0 4 (dk_at dksX1_drawerFor_4 18 rfl rfl)
theorem dX1_drawerFor_116 : decode cX1_drawerFor 116 = .ok (.iload_n 2, 1) := dk_28 (dk_at dksX1_drawerFor_4 21 rfl rfl)
theorem dX1_drawerFor_117 : decode cX1_drawerFor 117 = .ok (.istore_n 2, 1) := dk_61 (dk_at dksX1_drawerFor_4 22 rfl rfl)
theorem dX1_drawerFor_118 : decode cX1_drawerFor 118 = .ok (.iload 6, 2) := dk_21 6 (dk_at dksX1_drawerFor_5 0 rfl rfl)
theorem dX1_drawerFor_120 : decode cX1_drawerFor 120 = .ok (.ifCond .eq 8, 3) := dk_153 0 8 (dk_at dksX1_drawerFor_5 2 rfl rfl)
theorem dX1_drawerFor_123 : decode cX1_drawerFor 123 = .ok (.iload 5, 2) := dk_21 5 (dk_at dksX1_drawerFor_5 5 rfl rfl)
theorem dX1_drawerFor_125 : decode cX1_drawerFor 125 = .ok (.goto 4, 3) := dk_167 0 4 (dk_at dksX1_drawerFor_5 7 rfl rfl)
theorem dX1_drawerFor_128 : decode cX1_drawerFor 128 = .ok (.iload_n 3, 1) := dk_29 (dk_at dksX1_drawerFor_5 10 rfl rfl)
theorem dX1_drawerFor_129 : decode cX1_drawerFor 129 = .ok (.istore_n 3, 1) := dk_62 (dk_at dksX1_drawerFor_5 11 rfl rfl)
theorem dX1_drawerFor_130 : decode cX1_drawerFor 130 = .ok (.iinc 4 1, 3) := dk_132 4 1 (dk_at dksX1_drawerFor_5 12 rfl rfl)
theorem dX1_drawerFor_133 : decode cX1_drawerFor 133 = .ok (.goto (-126), 3) := dk_167 255 130 (dk_at dksX1_drawerFor_5 15 rfl rfl)
theorem dX1_drawerFor_136 : decode cX1_drawerFor 136 = .ok (.iload_n 2, 1) := dk_28 (dk_at dksX1_drawerFor_5 18 rfl rfl)
theorem dX1_drawerFor_137 : decode cX1_drawerFor 137 = .ok (.ireturn, 1) := dk_172 (dk_at dksX1_drawerFor_5 19 rfl rfl)
abbrev cX1_mixBatch : ByteArray := prog_1_method_44_code
def yX1_mixBatch : MethodName := ⟨RX1, "mixBatch", "()V"⟩
def dkwX1_mixBatch_2 : List UInt8 := [182, 0, 254, 132, 3, 1, 167, 255, 218, 177]
abbrev dktX1_mixBatch_2 : List UInt8 := dkwX1_mixBatch_2 ++ []
def dkwX1_mixBatch_1 : List UInt8 := [153, 0, 21, 42, 43, 180, 0, 178, 29, 7, 108, 29, 7, 112, 182, 0, 237, 133, 167, 0, 6, 20, 1, 11]
abbrev dktX1_mixBatch_1 : List UInt8 := dkwX1_mixBatch_1 ++ dktX1_mixBatch_2
def dkwX1_mixBatch_0 : List UInt8 := [187, 0, 167, 89, 42, 183, 0, 169, 76, 43, 182, 0, 172, 61, 3, 62, 29, 16, 12, 162, 0, 38, 42, 28]
abbrev dktX1_mixBatch_0 : List UInt8 := dkwX1_mixBatch_0 ++ dktX1_mixBatch_1
theorem dksX1_mixBatch_0 : cX1_mixBatch.data.toList.drop 0 = dktX1_mixBatch_0 := by decide +kernel
theorem dksX1_mixBatch_1 : cX1_mixBatch.data.toList.drop 24 = dktX1_mixBatch_1 := dk_seg dksX1_mixBatch_0 24 rfl rfl
theorem dksX1_mixBatch_2 : cX1_mixBatch.data.toList.drop 48 = dktX1_mixBatch_2 := dk_seg dksX1_mixBatch_1 24 rfl rfl
theorem dX1_mixBatch_0 : decode cX1_mixBatch 0 = .ok (.new 167, 3) := dk_187 0 167 (dk_at dksX1_mixBatch_0 0 rfl rfl)
theorem dX1_mixBatch_3 : decode cX1_mixBatch 3 = .ok (.dup, 1) := dk_89 (dk_at dksX1_mixBatch_0 3 rfl rfl)
theorem dX1_mixBatch_4 : decode cX1_mixBatch 4 = .ok (.aload_n 0, 1) := dk_42 (dk_at dksX1_mixBatch_0 4 rfl rfl)
theorem dX1_mixBatch_5 : decode cX1_mixBatch 5 = .ok (.invokespecial 169, 3) := dk_183 0 169 (dk_at dksX1_mixBatch_0 5 rfl rfl)
theorem dX1_mixBatch_8 : decode cX1_mixBatch 8 = .ok (.astore_n 1, 1) := dk_76 (dk_at dksX1_mixBatch_0 8 rfl rfl)
theorem dX1_mixBatch_9 : decode cX1_mixBatch 9 = .ok (.aload_n 1, 1) := dk_43 (dk_at dksX1_mixBatch_0 9 rfl rfl)
theorem dX1_mixBatch_10 : decode cX1_mixBatch 10 = .ok (.invokevirtual 172, 3) := dk_182 0 172 (dk_at dksX1_mixBatch_0 10 rfl rfl)
theorem dX1_mixBatch_13 : decode cX1_mixBatch 13 = .ok (.istore_n 2, 1) := dk_61 (dk_at dksX1_mixBatch_0 13 rfl rfl)
theorem dX1_mixBatch_14 : decode cX1_mixBatch 14 = .ok (.iconst 0, 1) := dk_3 (dk_at dksX1_mixBatch_0 14 rfl rfl)
theorem dX1_mixBatch_15 : decode cX1_mixBatch 15 = .ok (.istore_n 3, 1) := dk_62 (dk_at dksX1_mixBatch_0 15 rfl rfl)
theorem dX1_mixBatch_16 : decode cX1_mixBatch 16 = .ok (.iload_n 3, 1) := dk_29 (dk_at dksX1_mixBatch_0 16 rfl rfl)
theorem dX1_mixBatch_17 : decode cX1_mixBatch 17 = .ok (.bipush 12, 2) := dk_16 12 (dk_at dksX1_mixBatch_0 17 rfl rfl)
theorem dX1_mixBatch_19 : decode cX1_mixBatch 19 = .ok (.if_icmp .ge 38, 3) := dk_162 0 38 (dk_at dksX1_mixBatch_0 19 rfl rfl)
theorem dX1_mixBatch_22 : decode cX1_mixBatch 22 = .ok (.aload_n 0, 1) := dk_42 (dk_at dksX1_mixBatch_0 22 rfl rfl)
theorem dX1_mixBatch_23 : decode cX1_mixBatch 23 = .ok (.iload_n 2, 1) := dk_28 (dk_at dksX1_mixBatch_0 23 rfl rfl)
theorem dX1_mixBatch_24 : decode cX1_mixBatch 24 = .ok (.ifCond .eq 21, 3) := dk_153 0 21 (dk_at dksX1_mixBatch_1 0 rfl rfl)
theorem dX1_mixBatch_27 : decode cX1_mixBatch 27 = .ok (.aload_n 0, 1) := dk_42 (dk_at dksX1_mixBatch_1 3 rfl rfl)
theorem dX1_mixBatch_28 : decode cX1_mixBatch 28 = .ok (.aload_n 1, 1) := dk_43 (dk_at dksX1_mixBatch_1 4 rfl rfl)
theorem dX1_mixBatch_29 : decode cX1_mixBatch 29 = .ok (.getfield 178, 3) := dk_180 0 178 (dk_at dksX1_mixBatch_1 5 rfl rfl)
theorem dX1_mixBatch_32 : decode cX1_mixBatch 32 = .ok (.iload_n 3, 1) := dk_29 (dk_at dksX1_mixBatch_1 8 rfl rfl)
theorem dX1_mixBatch_33 : decode cX1_mixBatch 33 = .ok (.iconst 4, 1) := dk_7 (dk_at dksX1_mixBatch_1 9 rfl rfl)
theorem dX1_mixBatch_34 : decode cX1_mixBatch 34 = .ok (.idiv, 1) := dk_108 (dk_at dksX1_mixBatch_1 10 rfl rfl)
theorem dX1_mixBatch_35 : decode cX1_mixBatch 35 = .ok (.iload_n 3, 1) := dk_29 (dk_at dksX1_mixBatch_1 11 rfl rfl)
theorem dX1_mixBatch_36 : decode cX1_mixBatch 36 = .ok (.iconst 4, 1) := dk_7 (dk_at dksX1_mixBatch_1 12 rfl rfl)
theorem dX1_mixBatch_37 : decode cX1_mixBatch 37 = .ok (.irem, 1) := dk_112 (dk_at dksX1_mixBatch_1 13 rfl rfl)
theorem dX1_mixBatch_38 : decode cX1_mixBatch 38 = .ok (.invokevirtual 237, 3) := dk_182 0 237 (dk_at dksX1_mixBatch_1 14 rfl rfl)
theorem dX1_mixBatch_41 : decode cX1_mixBatch 41 = .ok (.i2l, 1) := dk_133 (dk_at dksX1_mixBatch_1 17 rfl rfl)
theorem dX1_mixBatch_42 : decode cX1_mixBatch 42 = .ok (.goto 6, 3) := dk_167 0 6 (dk_at dksX1_mixBatch_1 18 rfl rfl)
theorem dX1_mixBatch_45 : decode cX1_mixBatch 45 = .ok (.ldc2_w 267, 3) := dk_20 1 11 (dk_at dksX1_mixBatch_1 21 rfl rfl)
theorem dX1_mixBatch_48 : decode cX1_mixBatch 48 = .ok (.invokevirtual 254, 3) := dk_182 0 254 (dk_at dksX1_mixBatch_2 0 rfl rfl)
theorem dX1_mixBatch_51 : decode cX1_mixBatch 51 = .ok (.iinc 3 1, 3) := dk_132 3 1 (dk_at dksX1_mixBatch_2 3 rfl rfl)
theorem dX1_mixBatch_54 : decode cX1_mixBatch 54 = .ok (.goto (-38), 3) := dk_167 255 218 (dk_at dksX1_mixBatch_2 6 rfl rfl)
theorem dX1_mixBatch_57 : decode cX1_mixBatch 57 = .ok (.return_, 1) := dk_177 (dk_at dksX1_mixBatch_2 9 rfl rfl)
abbrev cX1_pickedTold : ByteArray := prog_1_method_38_code
def yX1_pickedTold : MethodName := ⟨RX1, "pickedTold", "(LDrawerRing$Batch;II)I"⟩
def dkwX1_pickedTold_3 : List UInt8 := [167, 0, 10, 42, 180, 0, 16, 182, 0, 210, 172]
abbrev dktX1_pickedTold_3 : List UInt8 := dkwX1_pickedTold_3 ++ []
def dkwX1_pickedTold_2 : List UInt8 := [180, 0, 10, 182, 0, 213, 100, 167, 0, 25, 29, 5, 160, 0, 13, 42, 180, 0, 16, 180, 0, 196]
abbrev dktX1_pickedTold_2 : List UInt8 := dkwX1_pickedTold_2 ++ dktX1_pickedTold_3
def dkwX1_pickedTold_1 : List UInt8 := [54, 4, 29, 154, 0, 8, 21, 4, 167, 0, 48, 29, 4, 160, 0, 21, 42, 180, 0, 16, 182, 0, 213, 42]
abbrev dktX1_pickedTold_1 : List UInt8 := dkwX1_pickedTold_1 ++ dktX1_pickedTold_2
def dkwX1_pickedTold_0 : List UInt8 := [42, 180, 0, 16, 42, 180, 0, 10, 182, 0, 43, 43, 42, 180, 0, 16, 42, 180, 0, 10, 28, 182, 0, 185]
abbrev dktX1_pickedTold_0 : List UInt8 := dkwX1_pickedTold_0 ++ dktX1_pickedTold_1
theorem dksX1_pickedTold_0 : cX1_pickedTold.data.toList.drop 0 = dktX1_pickedTold_0 := by decide +kernel
theorem dksX1_pickedTold_1 : cX1_pickedTold.data.toList.drop 24 = dktX1_pickedTold_1 := dk_seg dksX1_pickedTold_0 24 rfl rfl
theorem dksX1_pickedTold_2 : cX1_pickedTold.data.toList.drop 48 = dktX1_pickedTold_2 := dk_seg dksX1_pickedTold_1 24 rfl rfl
theorem dksX1_pickedTold_3 : cX1_pickedTold.data.toList.drop 70 = dktX1_pickedTold_3 := dk_seg dksX1_pickedTold_2 22 rfl rfl
theorem dX1_pickedTold_0 : decode cX1_pickedTold 0 = .ok (.aload_n 0, 1) := dk_42 (dk_at dksX1_pickedTold_0 0 rfl rfl)
theorem dX1_pickedTold_1 : decode cX1_pickedTold 1 = .ok (.getfield 16, 3) := dk_180 0 16 (dk_at dksX1_pickedTold_0 1 rfl rfl)
theorem dX1_pickedTold_4 : decode cX1_pickedTold 4 = .ok (.aload_n 0, 1) := dk_42 (dk_at dksX1_pickedTold_0 4 rfl rfl)
theorem dX1_pickedTold_5 : decode cX1_pickedTold 5 = .ok (.getfield 10, 3) := dk_180 0 10 (dk_at dksX1_pickedTold_0 5 rfl rfl)
theorem dX1_pickedTold_8 : decode cX1_pickedTold 8 = .ok (.invokevirtual 43, 3) := dk_182 0 43 (dk_at dksX1_pickedTold_0 8 rfl rfl)
theorem dX1_pickedTold_11 : decode cX1_pickedTold 11 = .ok (.aload_n 1, 1) := dk_43 (dk_at dksX1_pickedTold_0 11 rfl rfl)
theorem dX1_pickedTold_12 : decode cX1_pickedTold 12 = .ok (.aload_n 0, 1) := dk_42 (dk_at dksX1_pickedTold_0 12 rfl rfl)
theorem dX1_pickedTold_13 : decode cX1_pickedTold 13 = .ok (.getfield 16, 3) := dk_180 0 16 (dk_at dksX1_pickedTold_0 13 rfl rfl)
theorem dX1_pickedTold_16 : decode cX1_pickedTold 16 = .ok (.aload_n 0, 1) := dk_42 (dk_at dksX1_pickedTold_0 16 rfl rfl)
theorem dX1_pickedTold_17 : decode cX1_pickedTold 17 = .ok (.getfield 10, 3) := dk_180 0 10 (dk_at dksX1_pickedTold_0 17 rfl rfl)
theorem dX1_pickedTold_20 : decode cX1_pickedTold 20 = .ok (.iload_n 2, 1) := dk_28 (dk_at dksX1_pickedTold_0 20 rfl rfl)
theorem dX1_pickedTold_21 : decode cX1_pickedTold 21 = .ok (.invokevirtual 185, 3) := dk_182 0 185 (dk_at dksX1_pickedTold_0 21 rfl rfl)
theorem dX1_pickedTold_24 : decode cX1_pickedTold 24 = .ok (.istore 4, 2) := dk_54 4 (dk_at dksX1_pickedTold_1 0 rfl rfl)
theorem dX1_pickedTold_26 : decode cX1_pickedTold 26 = .ok (.iload_n 3, 1) := dk_29 (dk_at dksX1_pickedTold_1 2 rfl rfl)
theorem dX1_pickedTold_27 : decode cX1_pickedTold 27 = .ok (.ifCond .ne 8, 3) := dk_154 0 8 (dk_at dksX1_pickedTold_1 3 rfl rfl)
theorem dX1_pickedTold_30 : decode cX1_pickedTold 30 = .ok (.iload 4, 2) := dk_21 4 (dk_at dksX1_pickedTold_1 6 rfl rfl)
theorem dX1_pickedTold_32 : decode cX1_pickedTold 32 = .ok (.goto 48, 3) := dk_167 0 48 (dk_at dksX1_pickedTold_1 8 rfl rfl)
theorem dX1_pickedTold_35 : decode cX1_pickedTold 35 = .ok (.iload_n 3, 1) := dk_29 (dk_at dksX1_pickedTold_1 11 rfl rfl)
theorem dX1_pickedTold_36 : decode cX1_pickedTold 36 = .ok (.iconst 1, 1) := dk_4 (dk_at dksX1_pickedTold_1 12 rfl rfl)
theorem dX1_pickedTold_37 : decode cX1_pickedTold 37 = .ok (.if_icmp .ne 21, 3) := dk_160 0 21 (dk_at dksX1_pickedTold_1 13 rfl rfl)
theorem dX1_pickedTold_40 : decode cX1_pickedTold 40 = .ok (.aload_n 0, 1) := dk_42 (dk_at dksX1_pickedTold_1 16 rfl rfl)
theorem dX1_pickedTold_41 : decode cX1_pickedTold 41 = .ok (.getfield 16, 3) := dk_180 0 16 (dk_at dksX1_pickedTold_1 17 rfl rfl)
theorem dX1_pickedTold_44 : decode cX1_pickedTold 44 = .ok (.invokevirtual 213, 3) := dk_182 0 213 (dk_at dksX1_pickedTold_1 20 rfl rfl)
theorem dX1_pickedTold_47 : decode cX1_pickedTold 47 = .ok (.aload_n 0, 1) := dk_42 (dk_at dksX1_pickedTold_1 23 rfl rfl)
theorem dX1_pickedTold_48 : decode cX1_pickedTold 48 = .ok (.getfield 10, 3) := dk_180 0 10 (dk_at dksX1_pickedTold_2 0 rfl rfl)
theorem dX1_pickedTold_51 : decode cX1_pickedTold 51 = .ok (.invokevirtual 213, 3) := dk_182 0 213 (dk_at dksX1_pickedTold_2 3 rfl rfl)
theorem dX1_pickedTold_54 : decode cX1_pickedTold 54 = .ok (.isub, 1) := dk_100 (dk_at dksX1_pickedTold_2 6 rfl rfl)
theorem dX1_pickedTold_55 : decode cX1_pickedTold 55 = .ok (.goto 25, 3) := dk_167 0 25 (dk_at dksX1_pickedTold_2 7 rfl rfl)
theorem dX1_pickedTold_58 : decode cX1_pickedTold 58 = .ok (.iload_n 3, 1) := dk_29 (dk_at dksX1_pickedTold_2 10 rfl rfl)
theorem dX1_pickedTold_59 : decode cX1_pickedTold 59 = .ok (.iconst 2, 1) := dk_5 (dk_at dksX1_pickedTold_2 11 rfl rfl)
theorem dX1_pickedTold_60 : decode cX1_pickedTold 60 = .ok (.if_icmp .ne 13, 3) := dk_160 0 13 (dk_at dksX1_pickedTold_2 12 rfl rfl)
theorem dX1_pickedTold_63 : decode cX1_pickedTold 63 = .ok (.aload_n 0, 1) := dk_42 (dk_at dksX1_pickedTold_2 15 rfl rfl)
theorem dX1_pickedTold_64 : decode cX1_pickedTold 64 = .ok (.getfield 16, 3) := dk_180 0 16 (dk_at dksX1_pickedTold_2 16 rfl rfl)
theorem dX1_pickedTold_67 : decode cX1_pickedTold 67 = .ok (.getfield 196, 3) := dk_180 0 196 (dk_at dksX1_pickedTold_2 19 rfl rfl)
theorem dX1_pickedTold_70 : decode cX1_pickedTold 70 = .ok (.goto 10, 3) := dk_167 0 10 (dk_at dksX1_pickedTold_3 0 rfl rfl)
theorem dX1_pickedTold_73 : decode cX1_pickedTold 73 = .ok (.aload_n 0, 1) := dk_42 (dk_at dksX1_pickedTold_3 3 rfl rfl)
theorem dX1_pickedTold_74 : decode cX1_pickedTold 74 = .ok (.getfield 16, 3) := dk_180 0 16 (dk_at dksX1_pickedTold_3 4 rfl rfl)
theorem dX1_pickedTold_77 : decode cX1_pickedTold 77 = .ok (.invokevirtual 210, 3) := dk_182 0 210 (dk_at dksX1_pickedTold_3 7 rfl rfl)
theorem dX1_pickedTold_80 : decode cX1_pickedTold 80 = .ok (.ireturn, 1) := dk_172 (dk_at dksX1_pickedTold_3 10 rfl rfl)
abbrev cX1_put : ByteArray := prog_1_method_10_code
def yX1_put : MethodName := ⟨RX1, "put", "(II)I"⟩
def dkwX1_put_3 : List UInt8 := [182, 0, 105, 42, 180, 0, 10, 180, 0, 92, 4, 100, 172]
abbrev dktX1_put_3 : List UInt8 := dkwX1_put_3 ++ []
def dkwX1_put_2 : List UInt8 := [182, 0, 96, 153, 0, 7, 4, 167, 0, 4, 3, 184, 0, 99, 42, 182, 0, 102, 42, 180, 0, 10, 27, 28]
abbrev dktX1_put_2 : List UInt8 := dkwX1_put_2 ++ dktX1_put_3
def dkwX1_put_1 : List UInt8 := [16, 40, 162, 0, 30, 42, 180, 0, 10, 180, 0, 92, 17, 3, 232, 162, 0, 17, 42, 27, 28, 2]
abbrev dktX1_put_1 : List UInt8 := dkwX1_put_1 ++ dktX1_put_2
def dkwX1_put_0 : List UInt8 := [27, 184, 0, 75, 184, 0, 79, 28, 184, 0, 83, 184, 0, 86, 42, 180, 0, 10, 180, 0, 89, 182, 0, 35]
abbrev dktX1_put_0 : List UInt8 := dkwX1_put_0 ++ dktX1_put_1
theorem dksX1_put_0 : cX1_put.data.toList.drop 0 = dktX1_put_0 := by decide +kernel
theorem dksX1_put_1 : cX1_put.data.toList.drop 24 = dktX1_put_1 := dk_seg dksX1_put_0 24 rfl rfl
theorem dksX1_put_2 : cX1_put.data.toList.drop 46 = dktX1_put_2 := dk_seg dksX1_put_1 22 rfl rfl
theorem dksX1_put_3 : cX1_put.data.toList.drop 70 = dktX1_put_3 := dk_seg dksX1_put_2 24 rfl rfl
theorem dX1_put_0 : decode cX1_put 0 = .ok (.iload_n 1, 1) := dk_27 (dk_at dksX1_put_0 0 rfl rfl)
theorem dX1_put_1 : decode cX1_put 1 = .ok (.invokestatic 75, 3) := dk_184 0 75 (dk_at dksX1_put_0 1 rfl rfl)
theorem dX1_put_4 : decode cX1_put 4 = .ok (.invokestatic 79, 3) := dk_184 0 79 (dk_at dksX1_put_0 4 rfl rfl)
theorem dX1_put_7 : decode cX1_put 7 = .ok (.iload_n 2, 1) := dk_28 (dk_at dksX1_put_0 7 rfl rfl)
theorem dX1_put_8 : decode cX1_put 8 = .ok (.invokestatic 83, 3) := dk_184 0 83 (dk_at dksX1_put_0 8 rfl rfl)
theorem dX1_put_11 : decode cX1_put 11 = .ok (.invokestatic 86, 3) := dk_184 0 86 (dk_at dksX1_put_0 11 rfl rfl)
theorem dX1_put_14 : decode cX1_put 14 = .ok (.aload_n 0, 1) := dk_42 (dk_at dksX1_put_0 14 rfl rfl)
theorem dX1_put_15 : decode cX1_put 15 = .ok (.getfield 10, 3) := dk_180 0 10 (dk_at dksX1_put_0 15 rfl rfl)
theorem dX1_put_18 : decode cX1_put 18 = .ok (.getfield 89, 3) := dk_180 0 89 (dk_at dksX1_put_0 18 rfl rfl)
theorem dX1_put_21 : decode cX1_put 21 = .ok (.invokevirtual 35, 3) := dk_182 0 35 (dk_at dksX1_put_0 21 rfl rfl)
theorem dX1_put_24 : decode cX1_put 24 = .ok (.bipush 40, 2) := dk_16 40 (dk_at dksX1_put_1 0 rfl rfl)
theorem dX1_put_26 : decode cX1_put 26 = .ok (.if_icmp .ge 30, 3) := dk_162 0 30 (dk_at dksX1_put_1 2 rfl rfl)
theorem dX1_put_29 : decode cX1_put 29 = .ok (.aload_n 0, 1) := dk_42 (dk_at dksX1_put_1 5 rfl rfl)
theorem dX1_put_30 : decode cX1_put 30 = .ok (.getfield 10, 3) := dk_180 0 10 (dk_at dksX1_put_1 6 rfl rfl)
theorem dX1_put_33 : decode cX1_put 33 = .ok (.getfield 92, 3) := dk_180 0 92 (dk_at dksX1_put_1 9 rfl rfl)
theorem dX1_put_36 : decode cX1_put 36 = .ok (.sipush 1000, 3) := dk_17 3 232 (dk_at dksX1_put_1 12 rfl rfl)
theorem dX1_put_39 : decode cX1_put 39 = .ok (.if_icmp .ge 17, 3) := dk_162 0 17 (dk_at dksX1_put_1 15 rfl rfl)
theorem dX1_put_42 : decode cX1_put 42 = .ok (.aload_n 0, 1) := dk_42 (dk_at dksX1_put_1 18 rfl rfl)
theorem dX1_put_43 : decode cX1_put 43 = .ok (.iload_n 1, 1) := dk_27 (dk_at dksX1_put_1 19 rfl rfl)
theorem dX1_put_44 : decode cX1_put 44 = .ok (.iload_n 2, 1) := dk_28 (dk_at dksX1_put_1 20 rfl rfl)
theorem dX1_put_45 : decode cX1_put 45 = .ok (.iconst (-1), 1) := dk_2 (dk_at dksX1_put_1 21 rfl rfl)
theorem dX1_put_46 : decode cX1_put 46 = .ok (.invokevirtual 96, 3) := dk_182 0 96 (dk_at dksX1_put_2 0 rfl rfl)
theorem dX1_put_49 : decode cX1_put 49 = .ok (.ifCond .eq 7, 3) := dk_153 0 7 (dk_at dksX1_put_2 3 rfl rfl)
theorem dX1_put_52 : decode cX1_put 52 = .ok (.iconst 1, 1) := dk_4 (dk_at dksX1_put_2 6 rfl rfl)
theorem dX1_put_53 : decode cX1_put 53 = .ok (.goto 4, 3) := dk_167 0 4 (dk_at dksX1_put_2 7 rfl rfl)
theorem dX1_put_56 : decode cX1_put 56 = .ok (.iconst 0, 1) := dk_3 (dk_at dksX1_put_2 10 rfl rfl)
theorem dX1_put_57 : decode cX1_put 57 = .ok (.invokestatic 99, 3) := dk_184 0 99 (dk_at dksX1_put_2 11 rfl rfl)
theorem dX1_put_60 : decode cX1_put 60 = .ok (.aload_n 0, 1) := dk_42 (dk_at dksX1_put_2 14 rfl rfl)
theorem dX1_put_61 : decode cX1_put 61 = .ok (.invokevirtual 102, 3) := dk_182 0 102 (dk_at dksX1_put_2 15 rfl rfl)
theorem dX1_put_64 : decode cX1_put 64 = .ok (.aload_n 0, 1) := dk_42 (dk_at dksX1_put_2 18 rfl rfl)
theorem dX1_put_65 : decode cX1_put 65 = .ok (.getfield 10, 3) := dk_180 0 10 (dk_at dksX1_put_2 19 rfl rfl)
theorem dX1_put_68 : decode cX1_put 68 = .ok (.iload_n 1, 1) := dk_27 (dk_at dksX1_put_2 22 rfl rfl)
theorem dX1_put_69 : decode cX1_put 69 = .ok (.iload_n 2, 1) := dk_28 (dk_at dksX1_put_2 23 rfl rfl)
theorem dX1_put_70 : decode cX1_put 70 = .ok (.invokevirtual 105, 3) := dk_182 0 105 (dk_at dksX1_put_3 0 rfl rfl)
theorem dX1_put_73 : decode cX1_put 73 = .ok (.aload_n 0, 1) := dk_42 (dk_at dksX1_put_3 3 rfl rfl)
theorem dX1_put_74 : decode cX1_put 74 = .ok (.getfield 10, 3) := dk_180 0 10 (dk_at dksX1_put_3 4 rfl rfl)
theorem dX1_put_77 : decode cX1_put 77 = .ok (.getfield 92, 3) := dk_180 0 92 (dk_at dksX1_put_3 7 rfl rfl)
theorem dX1_put_80 : decode cX1_put 80 = .ok (.iconst 1, 1) := dk_4 (dk_at dksX1_put_3 10 rfl rfl)
theorem dX1_put_81 : decode cX1_put 81 = .ok (.isub, 1) := dk_100 (dk_at dksX1_put_3 11 rfl rfl)
theorem dX1_put_82 : decode cX1_put 82 = .ok (.ireturn, 1) := dk_172 (dk_at dksX1_put_3 12 rfl rfl)
abbrev cX1_isDrawer : ByteArray := prog_1_method_7_code
def yX1_isDrawer : MethodName := ⟨RX1, "isDrawer", "(I)Z"⟩
def dkwX1_isDrawer_0 : List UInt8 := [26, 3, 16, 11, 184, 0, 60, 172]
abbrev dktX1_isDrawer_0 : List UInt8 := dkwX1_isDrawer_0 ++ []
theorem dksX1_isDrawer_0 : cX1_isDrawer.data.toList.drop 0 = dktX1_isDrawer_0 := by decide +kernel
theorem dX1_isDrawer_0 : decode cX1_isDrawer 0 = .ok (.iload_n 0, 1) := dk_26 (dk_at dksX1_isDrawer_0 0 rfl rfl)
theorem dX1_isDrawer_1 : decode cX1_isDrawer 1 = .ok (.iconst 0, 1) := dk_3 (dk_at dksX1_isDrawer_0 1 rfl rfl)
theorem dX1_isDrawer_2 : decode cX1_isDrawer 2 = .ok (.bipush 11, 2) := dk_16 11 (dk_at dksX1_isDrawer_0 2 rfl rfl)
theorem dX1_isDrawer_4 : decode cX1_isDrawer 4 = .ok (.invokestatic 60, 3) := dk_184 0 60 (dk_at dksX1_isDrawer_0 4 rfl rfl)
theorem dX1_isDrawer_7 : decode cX1_isDrawer 7 = .ok (.ireturn, 1) := dk_172 (dk_at dksX1_isDrawer_0 7 rfl rfl)
abbrev cX1_needIndex : ByteArray := prog_1_method_5_code
def yX1_needIndex : MethodName := ⟨RX1, "needIndex", "(Z)V"⟩
def dkwX1_needIndex_0 : List UInt8 := [26, 154, 0, 11, 187, 0, 54, 89, 183, 0, 56, 191, 177]
abbrev dktX1_needIndex_0 : List UInt8 := dkwX1_needIndex_0 ++ []
theorem dksX1_needIndex_0 : cX1_needIndex.data.toList.drop 0 = dktX1_needIndex_0 := by decide +kernel
theorem dX1_needIndex_0 : decode cX1_needIndex 0 = .ok (.iload_n 0, 1) := dk_26 (dk_at dksX1_needIndex_0 0 rfl rfl)
theorem dX1_needIndex_1 : decode cX1_needIndex 1 = .ok (.ifCond .ne 11, 3) := dk_154 0 11 (dk_at dksX1_needIndex_0 1 rfl rfl)
theorem dX1_needIndex_4 : decode cX1_needIndex 4 = .ok (.new 54, 3) := dk_187 0 54 (dk_at dksX1_needIndex_0 4 rfl rfl)
theorem dX1_needIndex_7 : decode cX1_needIndex 7 = .ok (.dup, 1) := dk_89 (dk_at dksX1_needIndex_0 7 rfl rfl)
theorem dX1_needIndex_8 : decode cX1_needIndex 8 = .ok (.invokespecial 56, 3) := dk_183 0 56 (dk_at dksX1_needIndex_0 8 rfl rfl)
theorem dX1_needIndex_11 : decode cX1_needIndex 11 = .ok (.athrow, 1) := dk_191 (dk_at dksX1_needIndex_0 11 rfl rfl)
theorem dX1_needIndex_12 : decode cX1_needIndex 12 = .ok (.return_, 1) := dk_177 (dk_at dksX1_needIndex_0 12 rfl rfl)
abbrev cX1_isWeight : ByteArray := prog_1_method_8_code
def yX1_isWeight : MethodName := ⟨RX1, "isWeight", "(I)Z"⟩
def dkwX1_isWeight_0 : List UInt8 := [26, 4, 16, 20, 184, 0, 60, 172]
abbrev dktX1_isWeight_0 : List UInt8 := dkwX1_isWeight_0 ++ []
theorem dksX1_isWeight_0 : cX1_isWeight.data.toList.drop 0 = dktX1_isWeight_0 := by decide +kernel
theorem dX1_isWeight_0 : decode cX1_isWeight 0 = .ok (.iload_n 0, 1) := dk_26 (dk_at dksX1_isWeight_0 0 rfl rfl)
theorem dX1_isWeight_1 : decode cX1_isWeight 1 = .ok (.iconst 1, 1) := dk_4 (dk_at dksX1_isWeight_0 1 rfl rfl)
theorem dX1_isWeight_2 : decode cX1_isWeight 2 = .ok (.bipush 20, 2) := dk_16 20 (dk_at dksX1_isWeight_0 2 rfl rfl)
theorem dX1_isWeight_4 : decode cX1_isWeight 4 = .ok (.invokestatic 60, 3) := dk_184 0 60 (dk_at dksX1_isWeight_0 4 rfl rfl)
theorem dX1_isWeight_7 : decode cX1_isWeight 7 = .ok (.ireturn, 1) := dk_172 (dk_at dksX1_isWeight_0 7 rfl rfl)
abbrev cX1_need : ByteArray := prog_1_method_4_code
def yX1_need : MethodName := ⟨RX1, "need", "(Z)V"⟩
def dkwX1_need_0 : List UInt8 := [26, 154, 0, 11, 187, 0, 51, 89, 183, 0, 53, 191, 177]
abbrev dktX1_need_0 : List UInt8 := dkwX1_need_0 ++ []
theorem dksX1_need_0 : cX1_need.data.toList.drop 0 = dktX1_need_0 := by decide +kernel
theorem dX1_need_0 : decode cX1_need 0 = .ok (.iload_n 0, 1) := dk_26 (dk_at dksX1_need_0 0 rfl rfl)
theorem dX1_need_1 : decode cX1_need 1 = .ok (.ifCond .ne 11, 3) := dk_154 0 11 (dk_at dksX1_need_0 1 rfl rfl)
theorem dX1_need_4 : decode cX1_need 4 = .ok (.new 51, 3) := dk_187 0 51 (dk_at dksX1_need_0 4 rfl rfl)
theorem dX1_need_7 : decode cX1_need 7 = .ok (.dup, 1) := dk_89 (dk_at dksX1_need_0 7 rfl rfl)
theorem dX1_need_8 : decode cX1_need 8 = .ok (.invokespecial 53, 3) := dk_183 0 53 (dk_at dksX1_need_0 8 rfl rfl)
theorem dX1_need_11 : decode cX1_need 11 = .ok (.athrow, 1) := dk_191 (dk_at dksX1_need_0 11 rfl rfl)
theorem dX1_need_12 : decode cX1_need 12 = .ok (.return_, 1) := dk_177 (dk_at dksX1_need_0 12 rfl rfl)
abbrev cX1_mayPut : ByteArray := prog_1_method_9_code
def yX1_mayPut : MethodName := ⟨RX1, "mayPut", "(III)Z"⟩
def dkwX1_mayPut_4 : List UInt8 := [180, 0, 64, 29, 92, 46, 28, 96, 79, 21, 4, 172]
abbrev dktX1_mayPut_4 : List UInt8 := dkwX1_mayPut_4 ++ []
def dkwX1_mayPut_3 : List UInt8 := [54, 4, 42, 180, 0, 10, 180, 0, 64, 27, 92, 46, 28, 100, 79, 29, 2, 159, 0, 16, 42, 180, 0, 10]
abbrev dktX1_mayPut_3 : List UInt8 := dkwX1_mayPut_3 ++ dktX1_mayPut_4
def dkwX1_mayPut_2 : List UInt8 := [180, 0, 68, 4, 46, 163, 0, 17, 42, 180, 0, 10, 182, 0, 71, 153, 0, 7, 4, 167, 0, 4, 3]
abbrev dktX1_mayPut_2 : List UInt8 := dkwX1_mayPut_2 ++ dktX1_mayPut_3
def dkwX1_mayPut_1 : List UInt8 := [180, 0, 64, 29, 92, 46, 28, 100, 79, 42, 180, 0, 10, 180, 0, 64, 27, 46, 42, 180, 0, 10]
abbrev dktX1_mayPut_1 : List UInt8 := dkwX1_mayPut_1 ++ dktX1_mayPut_2
def dkwX1_mayPut_0 : List UInt8 := [42, 180, 0, 10, 180, 0, 64, 27, 92, 46, 28, 96, 79, 29, 2, 159, 0, 16, 42, 180, 0, 10]
abbrev dktX1_mayPut_0 : List UInt8 := dkwX1_mayPut_0 ++ dktX1_mayPut_1
theorem dksX1_mayPut_0 : cX1_mayPut.data.toList.drop 0 = dktX1_mayPut_0 := by decide +kernel
theorem dksX1_mayPut_1 : cX1_mayPut.data.toList.drop 22 = dktX1_mayPut_1 := dk_seg dksX1_mayPut_0 22 rfl rfl
theorem dksX1_mayPut_2 : cX1_mayPut.data.toList.drop 44 = dktX1_mayPut_2 := dk_seg dksX1_mayPut_1 22 rfl rfl
theorem dksX1_mayPut_3 : cX1_mayPut.data.toList.drop 67 = dktX1_mayPut_3 := dk_seg dksX1_mayPut_2 23 rfl rfl
theorem dksX1_mayPut_4 : cX1_mayPut.data.toList.drop 91 = dktX1_mayPut_4 := dk_seg dksX1_mayPut_3 24 rfl rfl
theorem dX1_mayPut_0 : decode cX1_mayPut 0 = .ok (.aload_n 0, 1) := dk_42 (dk_at dksX1_mayPut_0 0 rfl rfl)
theorem dX1_mayPut_1 : decode cX1_mayPut 1 = .ok (.getfield 10, 3) := dk_180 0 10 (dk_at dksX1_mayPut_0 1 rfl rfl)
theorem dX1_mayPut_4 : decode cX1_mayPut 4 = .ok (.getfield 64, 3) := dk_180 0 64 (dk_at dksX1_mayPut_0 4 rfl rfl)
theorem dX1_mayPut_7 : decode cX1_mayPut 7 = .ok (.iload_n 1, 1) := dk_27 (dk_at dksX1_mayPut_0 7 rfl rfl)
theorem dX1_mayPut_8 : decode cX1_mayPut 8 = .ok (.dup2, 1) := dk_92 (dk_at dksX1_mayPut_0 8 rfl rfl)
theorem dX1_mayPut_9 : decode cX1_mayPut 9 = .ok (.iaload, 1) := dk_46 (dk_at dksX1_mayPut_0 9 rfl rfl)
theorem dX1_mayPut_10 : decode cX1_mayPut 10 = .ok (.iload_n 2, 1) := dk_28 (dk_at dksX1_mayPut_0 10 rfl rfl)
theorem dX1_mayPut_11 : decode cX1_mayPut 11 = .ok (.iadd, 1) := dk_96 (dk_at dksX1_mayPut_0 11 rfl rfl)
theorem dX1_mayPut_12 : decode cX1_mayPut 12 = .ok (.iastore, 1) := dk_79 (dk_at dksX1_mayPut_0 12 rfl rfl)
theorem dX1_mayPut_13 : decode cX1_mayPut 13 = .ok (.iload_n 3, 1) := dk_29 (dk_at dksX1_mayPut_0 13 rfl rfl)
theorem dX1_mayPut_14 : decode cX1_mayPut 14 = .ok (.iconst (-1), 1) := dk_2 (dk_at dksX1_mayPut_0 14 rfl rfl)
theorem dX1_mayPut_15 : decode cX1_mayPut 15 = .ok (.if_icmp .eq 16, 3) := dk_159 0 16 (dk_at dksX1_mayPut_0 15 rfl rfl)
theorem dX1_mayPut_18 : decode cX1_mayPut 18 = .ok (.aload_n 0, 1) := dk_42 (dk_at dksX1_mayPut_0 18 rfl rfl)
theorem dX1_mayPut_19 : decode cX1_mayPut 19 = .ok (.getfield 10, 3) := dk_180 0 10 (dk_at dksX1_mayPut_0 19 rfl rfl)
theorem dX1_mayPut_22 : decode cX1_mayPut 22 = .ok (.getfield 64, 3) := dk_180 0 64 (dk_at dksX1_mayPut_1 0 rfl rfl)
theorem dX1_mayPut_25 : decode cX1_mayPut 25 = .ok (.iload_n 3, 1) := dk_29 (dk_at dksX1_mayPut_1 3 rfl rfl)
theorem dX1_mayPut_26 : decode cX1_mayPut 26 = .ok (.dup2, 1) := dk_92 (dk_at dksX1_mayPut_1 4 rfl rfl)
theorem dX1_mayPut_27 : decode cX1_mayPut 27 = .ok (.iaload, 1) := dk_46 (dk_at dksX1_mayPut_1 5 rfl rfl)
theorem dX1_mayPut_28 : decode cX1_mayPut 28 = .ok (.iload_n 2, 1) := dk_28 (dk_at dksX1_mayPut_1 6 rfl rfl)
theorem dX1_mayPut_29 : decode cX1_mayPut 29 = .ok (.isub, 1) := dk_100 (dk_at dksX1_mayPut_1 7 rfl rfl)
theorem dX1_mayPut_30 : decode cX1_mayPut 30 = .ok (.iastore, 1) := dk_79 (dk_at dksX1_mayPut_1 8 rfl rfl)
theorem dX1_mayPut_31 : decode cX1_mayPut 31 = .ok (.aload_n 0, 1) := dk_42 (dk_at dksX1_mayPut_1 9 rfl rfl)
theorem dX1_mayPut_32 : decode cX1_mayPut 32 = .ok (.getfield 10, 3) := dk_180 0 10 (dk_at dksX1_mayPut_1 10 rfl rfl)
theorem dX1_mayPut_35 : decode cX1_mayPut 35 = .ok (.getfield 64, 3) := dk_180 0 64 (dk_at dksX1_mayPut_1 13 rfl rfl)
theorem dX1_mayPut_38 : decode cX1_mayPut 38 = .ok (.iload_n 1, 1) := dk_27 (dk_at dksX1_mayPut_1 16 rfl rfl)
theorem dX1_mayPut_39 : decode cX1_mayPut 39 = .ok (.iaload, 1) := dk_46 (dk_at dksX1_mayPut_1 17 rfl rfl)
theorem dX1_mayPut_40 : decode cX1_mayPut 40 = .ok (.aload_n 0, 1) := dk_42 (dk_at dksX1_mayPut_1 18 rfl rfl)
theorem dX1_mayPut_41 : decode cX1_mayPut 41 = .ok (.getfield 10, 3) := dk_180 0 10 (dk_at dksX1_mayPut_1 19 rfl rfl)
theorem dX1_mayPut_44 : decode cX1_mayPut 44 = .ok (.getfield 68, 3) := dk_180 0 68 (dk_at dksX1_mayPut_2 0 rfl rfl)
theorem dX1_mayPut_47 : decode cX1_mayPut 47 = .ok (.iconst 1, 1) := dk_4 (dk_at dksX1_mayPut_2 3 rfl rfl)
theorem dX1_mayPut_48 : decode cX1_mayPut 48 = .ok (.iaload, 1) := dk_46 (dk_at dksX1_mayPut_2 4 rfl rfl)
theorem dX1_mayPut_49 : decode cX1_mayPut 49 = .ok (.if_icmp .gt 17, 3) := dk_163 0 17 (dk_at dksX1_mayPut_2 5 rfl rfl)
theorem dX1_mayPut_52 : decode cX1_mayPut 52 = .ok (.aload_n 0, 1) := dk_42 (dk_at dksX1_mayPut_2 8 rfl rfl)
theorem dX1_mayPut_53 : decode cX1_mayPut 53 = .ok (.getfield 10, 3) := dk_180 0 10 (dk_at dksX1_mayPut_2 9 rfl rfl)
theorem dX1_mayPut_56 : decode cX1_mayPut 56 = .ok (.invokevirtual 71, 3) := dk_182 0 71 (dk_at dksX1_mayPut_2 12 rfl rfl)
theorem dX1_mayPut_59 : decode cX1_mayPut 59 = .ok (.ifCond .eq 7, 3) := dk_153 0 7 (dk_at dksX1_mayPut_2 15 rfl rfl)
theorem dX1_mayPut_62 : decode cX1_mayPut 62 = .ok (.iconst 1, 1) := dk_4 (dk_at dksX1_mayPut_2 18 rfl rfl)
theorem dX1_mayPut_63 : decode cX1_mayPut 63 = .ok (.goto 4, 3) := dk_167 0 4 (dk_at dksX1_mayPut_2 19 rfl rfl)
theorem dX1_mayPut_66 : decode cX1_mayPut 66 = .ok (.iconst 0, 1) := dk_3 (dk_at dksX1_mayPut_2 22 rfl rfl)
theorem dX1_mayPut_67 : decode cX1_mayPut 67 = .ok (.istore 4, 2) := dk_54 4 (dk_at dksX1_mayPut_3 0 rfl rfl)
theorem dX1_mayPut_69 : decode cX1_mayPut 69 = .ok (.aload_n 0, 1) := dk_42 (dk_at dksX1_mayPut_3 2 rfl rfl)
theorem dX1_mayPut_70 : decode cX1_mayPut 70 = .ok (.getfield 10, 3) := dk_180 0 10 (dk_at dksX1_mayPut_3 3 rfl rfl)
theorem dX1_mayPut_73 : decode cX1_mayPut 73 = .ok (.getfield 64, 3) := dk_180 0 64 (dk_at dksX1_mayPut_3 6 rfl rfl)
theorem dX1_mayPut_76 : decode cX1_mayPut 76 = .ok (.iload_n 1, 1) := dk_27 (dk_at dksX1_mayPut_3 9 rfl rfl)
theorem dX1_mayPut_77 : decode cX1_mayPut 77 = .ok (.dup2, 1) := dk_92 (dk_at dksX1_mayPut_3 10 rfl rfl)
theorem dX1_mayPut_78 : decode cX1_mayPut 78 = .ok (.iaload, 1) := dk_46 (dk_at dksX1_mayPut_3 11 rfl rfl)
theorem dX1_mayPut_79 : decode cX1_mayPut 79 = .ok (.iload_n 2, 1) := dk_28 (dk_at dksX1_mayPut_3 12 rfl rfl)
theorem dX1_mayPut_80 : decode cX1_mayPut 80 = .ok (.isub, 1) := dk_100 (dk_at dksX1_mayPut_3 13 rfl rfl)
theorem dX1_mayPut_81 : decode cX1_mayPut 81 = .ok (.iastore, 1) := dk_79 (dk_at dksX1_mayPut_3 14 rfl rfl)
theorem dX1_mayPut_82 : decode cX1_mayPut 82 = .ok (.iload_n 3, 1) := dk_29 (dk_at dksX1_mayPut_3 15 rfl rfl)
theorem dX1_mayPut_83 : decode cX1_mayPut 83 = .ok (.iconst (-1), 1) := dk_2 (dk_at dksX1_mayPut_3 16 rfl rfl)
theorem dX1_mayPut_84 : decode cX1_mayPut 84 = .ok (.if_icmp .eq 16, 3) := dk_159 0 16 (dk_at dksX1_mayPut_3 17 rfl rfl)
theorem dX1_mayPut_87 : decode cX1_mayPut 87 = .ok (.aload_n 0, 1) := dk_42 (dk_at dksX1_mayPut_3 20 rfl rfl)
theorem dX1_mayPut_88 : decode cX1_mayPut 88 = .ok (.getfield 10, 3) := dk_180 0 10 (dk_at dksX1_mayPut_3 21 rfl rfl)
theorem dX1_mayPut_91 : decode cX1_mayPut 91 = .ok (.getfield 64, 3) := dk_180 0 64 (dk_at dksX1_mayPut_4 0 rfl rfl)
theorem dX1_mayPut_94 : decode cX1_mayPut 94 = .ok (.iload_n 3, 1) := dk_29 (dk_at dksX1_mayPut_4 3 rfl rfl)
theorem dX1_mayPut_95 : decode cX1_mayPut 95 = .ok (.dup2, 1) := dk_92 (dk_at dksX1_mayPut_4 4 rfl rfl)
theorem dX1_mayPut_96 : decode cX1_mayPut 96 = .ok (.iaload, 1) := dk_46 (dk_at dksX1_mayPut_4 5 rfl rfl)
theorem dX1_mayPut_97 : decode cX1_mayPut 97 = .ok (.iload_n 2, 1) := dk_28 (dk_at dksX1_mayPut_4 6 rfl rfl)
theorem dX1_mayPut_98 : decode cX1_mayPut 98 = .ok (.iadd, 1) := dk_96 (dk_at dksX1_mayPut_4 7 rfl rfl)
theorem dX1_mayPut_99 : decode cX1_mayPut 99 = .ok (.iastore, 1) := dk_79 (dk_at dksX1_mayPut_4 8 rfl rfl)
theorem dX1_mayPut_100 : decode cX1_mayPut 100 = .ok (.iload 4, 2) := dk_21 4 (dk_at dksX1_mayPut_4 9 rfl rfl)
theorem dX1_mayPut_102 : decode cX1_mayPut 102 = .ok (.ireturn, 1) := dk_172 (dk_at dksX1_mayPut_4 11 rfl rfl)
abbrev cX1_needState : ByteArray := prog_1_method_6_code
def yX1_needState : MethodName := ⟨RX1, "needState", "(Z)V"⟩
def dkwX1_needState_0 : List UInt8 := [26, 154, 0, 11, 187, 0, 57, 89, 183, 0, 59, 191, 177]
abbrev dktX1_needState_0 : List UInt8 := dkwX1_needState_0 ++ []
theorem dksX1_needState_0 : cX1_needState.data.toList.drop 0 = dktX1_needState_0 := by decide +kernel
theorem dX1_needState_0 : decode cX1_needState 0 = .ok (.iload_n 0, 1) := dk_26 (dk_at dksX1_needState_0 0 rfl rfl)
theorem dX1_needState_1 : decode cX1_needState 1 = .ok (.ifCond .ne 11, 3) := dk_154 0 11 (dk_at dksX1_needState_0 1 rfl rfl)
theorem dX1_needState_4 : decode cX1_needState 4 = .ok (.new 57, 3) := dk_187 0 57 (dk_at dksX1_needState_0 4 rfl rfl)
theorem dX1_needState_7 : decode cX1_needState 7 = .ok (.dup, 1) := dk_89 (dk_at dksX1_needState_0 7 rfl rfl)
theorem dX1_needState_8 : decode cX1_needState 8 = .ok (.invokespecial 59, 3) := dk_183 0 59 (dk_at dksX1_needState_0 8 rfl rfl)
theorem dX1_needState_11 : decode cX1_needState 11 = .ok (.athrow, 1) := dk_191 (dk_at dksX1_needState_0 11 rfl rfl)
theorem dX1_needState_12 : decode cX1_needState 12 = .ok (.return_, 1) := dk_177 (dk_at dksX1_needState_0 12 rfl rfl)
abbrev cX1_save : ByteArray := prog_1_method_3_code
def yX1_save : MethodName := ⟨RX1, "save", "()V"⟩
def dkwX1_save_2 : List UInt8 := [182, 0, 47, 87, 177]
abbrev dktX1_save_2 : List UInt8 := dkwX1_save_2 ++ []
def dkwX1_save_1 : List UInt8 := [167, 0, 10, 187, 0, 7, 89, 183, 0, 9, 76, 43, 42, 180, 0, 10, 182, 0, 43, 42, 180, 0, 22, 43]
abbrev dktX1_save_1 : List UInt8 := dkwX1_save_1 ++ dktX1_save_2
def dkwX1_save_0 : List UInt8 := [42, 180, 0, 22, 182, 0, 35, 16, 6, 160, 0, 17, 42, 180, 0, 22, 3, 182, 0, 39, 192, 0, 7]
abbrev dktX1_save_0 : List UInt8 := dkwX1_save_0 ++ dktX1_save_1
theorem dksX1_save_0 : cX1_save.data.toList.drop 0 = dktX1_save_0 := by decide +kernel
theorem dksX1_save_1 : cX1_save.data.toList.drop 23 = dktX1_save_1 := dk_seg dksX1_save_0 23 rfl rfl
theorem dksX1_save_2 : cX1_save.data.toList.drop 47 = dktX1_save_2 := dk_seg dksX1_save_1 24 rfl rfl
theorem dX1_save_0 : decode cX1_save 0 = .ok (.aload_n 0, 1) := dk_42 (dk_at dksX1_save_0 0 rfl rfl)
theorem dX1_save_1 : decode cX1_save 1 = .ok (.getfield 22, 3) := dk_180 0 22 (dk_at dksX1_save_0 1 rfl rfl)
theorem dX1_save_4 : decode cX1_save 4 = .ok (.invokevirtual 35, 3) := dk_182 0 35 (dk_at dksX1_save_0 4 rfl rfl)
theorem dX1_save_7 : decode cX1_save 7 = .ok (.bipush 6, 2) := dk_16 6 (dk_at dksX1_save_0 7 rfl rfl)
theorem dX1_save_9 : decode cX1_save 9 = .ok (.if_icmp .ne 17, 3) := dk_160 0 17 (dk_at dksX1_save_0 9 rfl rfl)
theorem dX1_save_12 : decode cX1_save 12 = .ok (.aload_n 0, 1) := dk_42 (dk_at dksX1_save_0 12 rfl rfl)
theorem dX1_save_13 : decode cX1_save 13 = .ok (.getfield 22, 3) := dk_180 0 22 (dk_at dksX1_save_0 13 rfl rfl)
theorem dX1_save_16 : decode cX1_save 16 = .ok (.iconst 0, 1) := dk_3 (dk_at dksX1_save_0 16 rfl rfl)
theorem dX1_save_17 : decode cX1_save 17 = .ok (.invokevirtual 39, 3) := dk_182 0 39 (dk_at dksX1_save_0 17 rfl rfl)
theorem dX1_save_20 : decode cX1_save 20 = .ok (.checkcast 7, 3) := dk_192 0 7 (dk_at dksX1_save_0 20 rfl rfl)
theorem dX1_save_23 : decode cX1_save 23 = .ok (.goto 10, 3) := dk_167 0 10 (dk_at dksX1_save_1 0 rfl rfl)
theorem dX1_save_26 : decode cX1_save 26 = .ok (.new 7, 3) := dk_187 0 7 (dk_at dksX1_save_1 3 rfl rfl)
theorem dX1_save_29 : decode cX1_save 29 = .ok (.dup, 1) := dk_89 (dk_at dksX1_save_1 6 rfl rfl)
theorem dX1_save_30 : decode cX1_save 30 = .ok (.invokespecial 9, 3) := dk_183 0 9 (dk_at dksX1_save_1 7 rfl rfl)
theorem dX1_save_33 : decode cX1_save 33 = .ok (.astore_n 1, 1) := dk_76 (dk_at dksX1_save_1 10 rfl rfl)
theorem dX1_save_34 : decode cX1_save 34 = .ok (.aload_n 1, 1) := dk_43 (dk_at dksX1_save_1 11 rfl rfl)
theorem dX1_save_35 : decode cX1_save 35 = .ok (.aload_n 0, 1) := dk_42 (dk_at dksX1_save_1 12 rfl rfl)
theorem dX1_save_36 : decode cX1_save 36 = .ok (.getfield 10, 3) := dk_180 0 10 (dk_at dksX1_save_1 13 rfl rfl)
theorem dX1_save_39 : decode cX1_save 39 = .ok (.invokevirtual 43, 3) := dk_182 0 43 (dk_at dksX1_save_1 16 rfl rfl)
theorem dX1_save_42 : decode cX1_save 42 = .ok (.aload_n 0, 1) := dk_42 (dk_at dksX1_save_1 19 rfl rfl)
theorem dX1_save_43 : decode cX1_save 43 = .ok (.getfield 22, 3) := dk_180 0 22 (dk_at dksX1_save_1 20 rfl rfl)
theorem dX1_save_46 : decode cX1_save 46 = .ok (.aload_n 1, 1) := dk_43 (dk_at dksX1_save_1 23 rfl rfl)
theorem dX1_save_47 : decode cX1_save 47 = .ok (.invokevirtual 47, 3) := dk_182 0 47 (dk_at dksX1_save_2 0 rfl rfl)
theorem dX1_save_50 : decode cX1_save 50 = .ok (.pop, 1) := dk_87 (dk_at dksX1_save_2 3 rfl rfl)
theorem dX1_save_51 : decode cX1_save 51 = .ok (.return_, 1) := dk_177 (dk_at dksX1_save_2 4 rfl rfl)
abbrev cX1_move : ByteArray := prog_1_method_11_code
def yX1_move : MethodName := ⟨RX1, "move", "(II)I"⟩
def dkwX1_move_5 : List UInt8 := [96, 79, 45, 28, 181, 0, 117, 21, 4, 172]
abbrev dktX1_move_5 : List UInt8 := dkwX1_move_5 ++ []
def dkwX1_move_4 : List UInt8 := [21, 4, 92, 46, 45, 180, 0, 122, 100, 79, 42, 180, 0, 10, 180, 0, 64, 28, 92, 46, 45, 180, 0, 122]
abbrev dktX1_move_4 : List UInt8 := dkwX1_move_4 ++ dktX1_move_5
def dkwX1_move_3 : List UInt8 := [167, 0, 4, 3, 184, 0, 99, 42, 182, 0, 102, 45, 180, 0, 117, 54, 4, 42, 180, 0, 10, 180, 0, 64]
abbrev dktX1_move_3 : List UInt8 := dkwX1_move_3 ++ dktX1_move_4
def dkwX1_move_2 : List UInt8 := [180, 0, 117, 51, 154, 0, 23, 42, 28, 45, 180, 0, 122, 45, 180, 0, 117, 182, 0, 96, 153, 0, 7, 4]
abbrev dktX1_move_2 : List UInt8 := dkwX1_move_2 ++ dktX1_move_3
def dkwX1_move_1 : List UInt8 := [3, 184, 0, 79, 42, 180, 0, 10, 180, 0, 113, 28, 51, 154, 0, 38, 42, 180, 0, 10, 180, 0, 113, 45]
abbrev dktX1_move_1 : List UInt8 := dkwX1_move_1 ++ dktX1_move_2
def dkwX1_move_0 : List UInt8 := [42, 180, 0, 10, 27, 182, 0, 109, 78, 45, 198, 0, 14, 28, 184, 0, 75, 153, 0, 7, 4, 167, 0, 4]
abbrev dktX1_move_0 : List UInt8 := dkwX1_move_0 ++ dktX1_move_1
theorem dksX1_move_0 : cX1_move.data.toList.drop 0 = dktX1_move_0 := by decide +kernel
theorem dksX1_move_1 : cX1_move.data.toList.drop 24 = dktX1_move_1 := dk_seg dksX1_move_0 24 rfl rfl
theorem dksX1_move_2 : cX1_move.data.toList.drop 48 = dktX1_move_2 := dk_seg dksX1_move_1 24 rfl rfl
theorem dksX1_move_3 : cX1_move.data.toList.drop 72 = dktX1_move_3 := dk_seg dksX1_move_2 24 rfl rfl
theorem dksX1_move_4 : cX1_move.data.toList.drop 96 = dktX1_move_4 := dk_seg dksX1_move_3 24 rfl rfl
theorem dksX1_move_5 : cX1_move.data.toList.drop 120 = dktX1_move_5 := dk_seg dksX1_move_4 24 rfl rfl
theorem dX1_move_0 : decode cX1_move 0 = .ok (.aload_n 0, 1) := dk_42 (dk_at dksX1_move_0 0 rfl rfl)
theorem dX1_move_1 : decode cX1_move 1 = .ok (.getfield 10, 3) := dk_180 0 10 (dk_at dksX1_move_0 1 rfl rfl)
theorem dX1_move_4 : decode cX1_move 4 = .ok (.iload_n 1, 1) := dk_27 (dk_at dksX1_move_0 4 rfl rfl)
theorem dX1_move_5 : decode cX1_move 5 = .ok (.invokevirtual 109, 3) := dk_182 0 109 (dk_at dksX1_move_0 5 rfl rfl)
theorem dX1_move_8 : decode cX1_move 8 = .ok (.astore_n 3, 1) := dk_78 (dk_at dksX1_move_0 8 rfl rfl)
theorem dX1_move_9 : decode cX1_move 9 = .ok (.aload_n 3, 1) := dk_45 (dk_at dksX1_move_0 9 rfl rfl)
theorem dX1_move_10 : decode cX1_move 10 = .ok (.ifnull 14, 3) := dk_198 0 14 (dk_at dksX1_move_0 10 rfl rfl)
theorem dX1_move_13 : decode cX1_move 13 = .ok (.iload_n 2, 1) := dk_28 (dk_at dksX1_move_0 13 rfl rfl)
theorem dX1_move_14 : decode cX1_move 14 = .ok (.invokestatic 75, 3) := dk_184 0 75 (dk_at dksX1_move_0 14 rfl rfl)
theorem dX1_move_17 : decode cX1_move 17 = .ok (.ifCond .eq 7, 3) := dk_153 0 7 (dk_at dksX1_move_0 17 rfl rfl)
theorem dX1_move_20 : decode cX1_move 20 = .ok (.iconst 1, 1) := dk_4 (dk_at dksX1_move_0 20 rfl rfl)
theorem dX1_move_21 : decode cX1_move 21 = .ok (.goto 4, 3) := dk_167 0 4 (dk_at dksX1_move_0 21 rfl rfl)
theorem dX1_move_24 : decode cX1_move 24 = .ok (.iconst 0, 1) := dk_3 (dk_at dksX1_move_1 0 rfl rfl)
theorem dX1_move_25 : decode cX1_move 25 = .ok (.invokestatic 79, 3) := dk_184 0 79 (dk_at dksX1_move_1 1 rfl rfl)
theorem dX1_move_28 : decode cX1_move 28 = .ok (.aload_n 0, 1) := dk_42 (dk_at dksX1_move_1 4 rfl rfl)
theorem dX1_move_29 : decode cX1_move 29 = .ok (.getfield 10, 3) := dk_180 0 10 (dk_at dksX1_move_1 5 rfl rfl)
theorem dX1_move_32 : decode cX1_move 32 = .ok (.getfield 113, 3) := dk_180 0 113 (dk_at dksX1_move_1 8 rfl rfl)
theorem dX1_move_35 : decode cX1_move 35 = .ok (.iload_n 2, 1) := dk_28 (dk_at dksX1_move_1 11 rfl rfl)
theorem dX1_move_36 : decode cX1_move 36 = .ok (.baload, 1) := dk_51 (dk_at dksX1_move_1 12 rfl rfl)
theorem dX1_move_37 : decode cX1_move 37 = .ok (.ifCond .ne 38, 3) := dk_154 0 38 (dk_at dksX1_move_1 13 rfl rfl)
theorem dX1_move_40 : decode cX1_move 40 = .ok (.aload_n 0, 1) := dk_42 (dk_at dksX1_move_1 16 rfl rfl)
theorem dX1_move_41 : decode cX1_move 41 = .ok (.getfield 10, 3) := dk_180 0 10 (dk_at dksX1_move_1 17 rfl rfl)
theorem dX1_move_44 : decode cX1_move 44 = .ok (.getfield 113, 3) := dk_180 0 113 (dk_at dksX1_move_1 20 rfl rfl)
theorem dX1_move_47 : decode cX1_move 47 = .ok (.aload_n 3, 1) := dk_45 (dk_at dksX1_move_1 23 rfl rfl)
theorem dX1_move_48 : decode cX1_move 48 = .ok (.getfield 117, 3) := dk_180 0 117 (dk_at dksX1_move_2 0 rfl rfl)
theorem dX1_move_51 : decode cX1_move 51 = .ok (.baload, 1) := dk_51 (dk_at dksX1_move_2 3 rfl rfl)
theorem dX1_move_52 : decode cX1_move 52 = .ok (.ifCond .ne 23, 3) := dk_154 0 23 (dk_at dksX1_move_2 4 rfl rfl)
theorem dX1_move_55 : decode cX1_move 55 = .ok (.aload_n 0, 1) := dk_42 (dk_at dksX1_move_2 7 rfl rfl)
theorem dX1_move_56 : decode cX1_move 56 = .ok (.iload_n 2, 1) := dk_28 (dk_at dksX1_move_2 8 rfl rfl)
theorem dX1_move_57 : decode cX1_move 57 = .ok (.aload_n 3, 1) := dk_45 (dk_at dksX1_move_2 9 rfl rfl)
theorem dX1_move_58 : decode cX1_move 58 = .ok (.getfield 122, 3) := dk_180 0 122 (dk_at dksX1_move_2 10 rfl rfl)
theorem dX1_move_61 : decode cX1_move 61 = .ok (.aload_n 3, 1) := dk_45 (dk_at dksX1_move_2 13 rfl rfl)
theorem dX1_move_62 : decode cX1_move 62 = .ok (.getfield 117, 3) := dk_180 0 117 (dk_at dksX1_move_2 14 rfl rfl)
theorem dX1_move_65 : decode cX1_move 65 = .ok (.invokevirtual 96, 3) := dk_182 0 96 (dk_at dksX1_move_2 17 rfl rfl)
theorem dX1_move_68 : decode cX1_move 68 = .ok (.ifCond .eq 7, 3) := dk_153 0 7 (dk_at dksX1_move_2 20 rfl rfl)
theorem dX1_move_71 : decode cX1_move 71 = .ok (.iconst 1, 1) := dk_4 (dk_at dksX1_move_2 23 rfl rfl)
theorem dX1_move_72 : decode cX1_move 72 = .ok (.goto 4, 3) := dk_167 0 4 (dk_at dksX1_move_3 0 rfl rfl)
theorem dX1_move_75 : decode cX1_move 75 = .ok (.iconst 0, 1) := dk_3 (dk_at dksX1_move_3 3 rfl rfl)
theorem dX1_move_76 : decode cX1_move 76 = .ok (.invokestatic 99, 3) := dk_184 0 99 (dk_at dksX1_move_3 4 rfl rfl)
theorem dX1_move_79 : decode cX1_move 79 = .ok (.aload_n 0, 1) := dk_42 (dk_at dksX1_move_3 7 rfl rfl)
theorem dX1_move_80 : decode cX1_move 80 = .ok (.invokevirtual 102, 3) := dk_182 0 102 (dk_at dksX1_move_3 8 rfl rfl)
theorem dX1_move_83 : decode cX1_move 83 = .ok (.aload_n 3, 1) := dk_45 (dk_at dksX1_move_3 11 rfl rfl)
theorem dX1_move_84 : decode cX1_move 84 = .ok (.getfield 117, 3) := dk_180 0 117 (dk_at dksX1_move_3 12 rfl rfl)
theorem dX1_move_87 : decode cX1_move 87 = .ok (.istore 4, 2) := dk_54 4 (dk_at dksX1_move_3 15 rfl rfl)
theorem dX1_move_89 : decode cX1_move 89 = .ok (.aload_n 0, 1) := dk_42 (dk_at dksX1_move_3 17 rfl rfl)
theorem dX1_move_90 : decode cX1_move 90 = .ok (.getfield 10, 3) := dk_180 0 10 (dk_at dksX1_move_3 18 rfl rfl)
theorem dX1_move_93 : decode cX1_move 93 = .ok (.getfield 64, 3) := dk_180 0 64 (dk_at dksX1_move_3 21 rfl rfl)
theorem dX1_move_96 : decode cX1_move 96 = .ok (.iload 4, 2) := dk_21 4 (dk_at dksX1_move_4 0 rfl rfl)
theorem dX1_move_98 : decode cX1_move 98 = .ok (.dup2, 1) := dk_92 (dk_at dksX1_move_4 2 rfl rfl)
theorem dX1_move_99 : decode cX1_move 99 = .ok (.iaload, 1) := dk_46 (dk_at dksX1_move_4 3 rfl rfl)
theorem dX1_move_100 : decode cX1_move 100 = .ok (.aload_n 3, 1) := dk_45 (dk_at dksX1_move_4 4 rfl rfl)
theorem dX1_move_101 : decode cX1_move 101 = .ok (.getfield 122, 3) := dk_180 0 122 (dk_at dksX1_move_4 5 rfl rfl)
theorem dX1_move_104 : decode cX1_move 104 = .ok (.isub, 1) := dk_100 (dk_at dksX1_move_4 8 rfl rfl)
theorem dX1_move_105 : decode cX1_move 105 = .ok (.iastore, 1) := dk_79 (dk_at dksX1_move_4 9 rfl rfl)
theorem dX1_move_106 : decode cX1_move 106 = .ok (.aload_n 0, 1) := dk_42 (dk_at dksX1_move_4 10 rfl rfl)
theorem dX1_move_107 : decode cX1_move 107 = .ok (.getfield 10, 3) := dk_180 0 10 (dk_at dksX1_move_4 11 rfl rfl)
theorem dX1_move_110 : decode cX1_move 110 = .ok (.getfield 64, 3) := dk_180 0 64 (dk_at dksX1_move_4 14 rfl rfl)
theorem dX1_move_113 : decode cX1_move 113 = .ok (.iload_n 2, 1) := dk_28 (dk_at dksX1_move_4 17 rfl rfl)
theorem dX1_move_114 : decode cX1_move 114 = .ok (.dup2, 1) := dk_92 (dk_at dksX1_move_4 18 rfl rfl)
theorem dX1_move_115 : decode cX1_move 115 = .ok (.iaload, 1) := dk_46 (dk_at dksX1_move_4 19 rfl rfl)
theorem dX1_move_116 : decode cX1_move 116 = .ok (.aload_n 3, 1) := dk_45 (dk_at dksX1_move_4 20 rfl rfl)
theorem dX1_move_117 : decode cX1_move 117 = .ok (.getfield 122, 3) := dk_180 0 122 (dk_at dksX1_move_4 21 rfl rfl)
theorem dX1_move_120 : decode cX1_move 120 = .ok (.iadd, 1) := dk_96 (dk_at dksX1_move_5 0 rfl rfl)
theorem dX1_move_121 : decode cX1_move 121 = .ok (.iastore, 1) := dk_79 (dk_at dksX1_move_5 1 rfl rfl)
theorem dX1_move_122 : decode cX1_move 122 = .ok (.aload_n 3, 1) := dk_45 (dk_at dksX1_move_5 2 rfl rfl)
theorem dX1_move_123 : decode cX1_move 123 = .ok (.iload_n 2, 1) := dk_28 (dk_at dksX1_move_5 3 rfl rfl)
theorem dX1_move_124 : decode cX1_move 124 = .ok (.putfield 117, 3) := dk_181 0 117 (dk_at dksX1_move_5 4 rfl rfl)
theorem dX1_move_127 : decode cX1_move 127 = .ok (.iload 4, 2) := dk_21 4 (dk_at dksX1_move_5 7 rfl rfl)
theorem dX1_move_129 : decode cX1_move 129 = .ok (.ireturn, 1) := dk_172 (dk_at dksX1_move_5 9 rfl rfl)
abbrev cX1_pick : ByteArray := prog_1_method_12_code
def yX1_pick : MethodName := ⟨RX1, "pick", "(I)I"⟩
def dkwX1_pick_2 : List UInt8 := [182, 0, 109, 182, 0, 129, 172]
abbrev dktX1_pick_2 : List UInt8 := dkwX1_pick_2 ++ []
def dkwX1_pick_1 : List UInt8 := [154, 0, 7, 4, 167, 0, 4, 3, 184, 0, 99, 42, 182, 0, 102, 42, 180, 0, 10, 42, 180, 0, 10, 27]
abbrev dktX1_pick_1 : List UInt8 := dkwX1_pick_1 ++ dktX1_pick_2
def dkwX1_pick_0 : List UInt8 := [42, 180, 0, 10, 27, 182, 0, 125, 61, 28, 4, 159, 0, 7, 4, 167, 0, 4, 3, 184, 0, 79, 28]
abbrev dktX1_pick_0 : List UInt8 := dkwX1_pick_0 ++ dktX1_pick_1
theorem dksX1_pick_0 : cX1_pick.data.toList.drop 0 = dktX1_pick_0 := by decide +kernel
theorem dksX1_pick_1 : cX1_pick.data.toList.drop 23 = dktX1_pick_1 := dk_seg dksX1_pick_0 23 rfl rfl
theorem dksX1_pick_2 : cX1_pick.data.toList.drop 47 = dktX1_pick_2 := dk_seg dksX1_pick_1 24 rfl rfl
theorem dX1_pick_0 : decode cX1_pick 0 = .ok (.aload_n 0, 1) := dk_42 (dk_at dksX1_pick_0 0 rfl rfl)
theorem dX1_pick_1 : decode cX1_pick 1 = .ok (.getfield 10, 3) := dk_180 0 10 (dk_at dksX1_pick_0 1 rfl rfl)
theorem dX1_pick_4 : decode cX1_pick 4 = .ok (.iload_n 1, 1) := dk_27 (dk_at dksX1_pick_0 4 rfl rfl)
theorem dX1_pick_5 : decode cX1_pick 5 = .ok (.invokevirtual 125, 3) := dk_182 0 125 (dk_at dksX1_pick_0 5 rfl rfl)
theorem dX1_pick_8 : decode cX1_pick 8 = .ok (.istore_n 2, 1) := dk_61 (dk_at dksX1_pick_0 8 rfl rfl)
theorem dX1_pick_9 : decode cX1_pick 9 = .ok (.iload_n 2, 1) := dk_28 (dk_at dksX1_pick_0 9 rfl rfl)
theorem dX1_pick_10 : decode cX1_pick 10 = .ok (.iconst 1, 1) := dk_4 (dk_at dksX1_pick_0 10 rfl rfl)
theorem dX1_pick_11 : decode cX1_pick 11 = .ok (.if_icmp .eq 7, 3) := dk_159 0 7 (dk_at dksX1_pick_0 11 rfl rfl)
theorem dX1_pick_14 : decode cX1_pick 14 = .ok (.iconst 1, 1) := dk_4 (dk_at dksX1_pick_0 14 rfl rfl)
theorem dX1_pick_15 : decode cX1_pick 15 = .ok (.goto 4, 3) := dk_167 0 4 (dk_at dksX1_pick_0 15 rfl rfl)
theorem dX1_pick_18 : decode cX1_pick 18 = .ok (.iconst 0, 1) := dk_3 (dk_at dksX1_pick_0 18 rfl rfl)
theorem dX1_pick_19 : decode cX1_pick 19 = .ok (.invokestatic 79, 3) := dk_184 0 79 (dk_at dksX1_pick_0 19 rfl rfl)
theorem dX1_pick_22 : decode cX1_pick 22 = .ok (.iload_n 2, 1) := dk_28 (dk_at dksX1_pick_0 22 rfl rfl)
theorem dX1_pick_23 : decode cX1_pick 23 = .ok (.ifCond .ne 7, 3) := dk_154 0 7 (dk_at dksX1_pick_1 0 rfl rfl)
theorem dX1_pick_26 : decode cX1_pick 26 = .ok (.iconst 1, 1) := dk_4 (dk_at dksX1_pick_1 3 rfl rfl)
theorem dX1_pick_27 : decode cX1_pick 27 = .ok (.goto 4, 3) := dk_167 0 4 (dk_at dksX1_pick_1 4 rfl rfl)
theorem dX1_pick_30 : decode cX1_pick 30 = .ok (.iconst 0, 1) := dk_3 (dk_at dksX1_pick_1 7 rfl rfl)
theorem dX1_pick_31 : decode cX1_pick 31 = .ok (.invokestatic 99, 3) := dk_184 0 99 (dk_at dksX1_pick_1 8 rfl rfl)
theorem dX1_pick_34 : decode cX1_pick 34 = .ok (.aload_n 0, 1) := dk_42 (dk_at dksX1_pick_1 11 rfl rfl)
theorem dX1_pick_35 : decode cX1_pick 35 = .ok (.invokevirtual 102, 3) := dk_182 0 102 (dk_at dksX1_pick_1 12 rfl rfl)
theorem dX1_pick_38 : decode cX1_pick 38 = .ok (.aload_n 0, 1) := dk_42 (dk_at dksX1_pick_1 15 rfl rfl)
theorem dX1_pick_39 : decode cX1_pick 39 = .ok (.getfield 10, 3) := dk_180 0 10 (dk_at dksX1_pick_1 16 rfl rfl)
theorem dX1_pick_42 : decode cX1_pick 42 = .ok (.aload_n 0, 1) := dk_42 (dk_at dksX1_pick_1 19 rfl rfl)
theorem dX1_pick_43 : decode cX1_pick 43 = .ok (.getfield 10, 3) := dk_180 0 10 (dk_at dksX1_pick_1 20 rfl rfl)
theorem dX1_pick_46 : decode cX1_pick 46 = .ok (.iload_n 1, 1) := dk_27 (dk_at dksX1_pick_1 23 rfl rfl)
theorem dX1_pick_47 : decode cX1_pick 47 = .ok (.invokevirtual 109, 3) := dk_182 0 109 (dk_at dksX1_pick_2 0 rfl rfl)
theorem dX1_pick_50 : decode cX1_pick 50 = .ok (.invokevirtual 129, 3) := dk_182 0 129 (dk_at dksX1_pick_2 3 rfl rfl)
theorem dX1_pick_53 : decode cX1_pick 53 = .ok (.ireturn, 1) := dk_172 (dk_at dksX1_pick_2 6 rfl rfl)
abbrev cX1_turn : ByteArray := prog_1_method_13_code
def yX1_turn : MethodName := ⟨RX1, "turn", "(I)I"⟩
def dkwX1_turn_1 : List UInt8 := [3, 184, 0, 99, 42, 182, 0, 102, 42, 180, 0, 10, 27, 182, 0, 136, 172]
abbrev dktX1_turn_1 : List UInt8 := dkwX1_turn_1 ++ []
def dkwX1_turn_0 : List UInt8 := [27, 184, 0, 75, 184, 0, 79, 42, 180, 0, 10, 27, 182, 0, 133, 16, 99, 159, 0, 7, 4, 167, 0, 4]
abbrev dktX1_turn_0 : List UInt8 := dkwX1_turn_0 ++ dktX1_turn_1
theorem dksX1_turn_0 : cX1_turn.data.toList.drop 0 = dktX1_turn_0 := by decide +kernel
theorem dksX1_turn_1 : cX1_turn.data.toList.drop 24 = dktX1_turn_1 := dk_seg dksX1_turn_0 24 rfl rfl
theorem dX1_turn_0 : decode cX1_turn 0 = .ok (.iload_n 1, 1) := dk_27 (dk_at dksX1_turn_0 0 rfl rfl)
theorem dX1_turn_1 : decode cX1_turn 1 = .ok (.invokestatic 75, 3) := dk_184 0 75 (dk_at dksX1_turn_0 1 rfl rfl)
theorem dX1_turn_4 : decode cX1_turn 4 = .ok (.invokestatic 79, 3) := dk_184 0 79 (dk_at dksX1_turn_0 4 rfl rfl)
theorem dX1_turn_7 : decode cX1_turn 7 = .ok (.aload_n 0, 1) := dk_42 (dk_at dksX1_turn_0 7 rfl rfl)
theorem dX1_turn_8 : decode cX1_turn 8 = .ok (.getfield 10, 3) := dk_180 0 10 (dk_at dksX1_turn_0 8 rfl rfl)
theorem dX1_turn_11 : decode cX1_turn 11 = .ok (.iload_n 1, 1) := dk_27 (dk_at dksX1_turn_0 11 rfl rfl)
theorem dX1_turn_12 : decode cX1_turn 12 = .ok (.invokevirtual 133, 3) := dk_182 0 133 (dk_at dksX1_turn_0 12 rfl rfl)
theorem dX1_turn_15 : decode cX1_turn 15 = .ok (.bipush 99, 2) := dk_16 99 (dk_at dksX1_turn_0 15 rfl rfl)
theorem dX1_turn_17 : decode cX1_turn 17 = .ok (.if_icmp .eq 7, 3) := dk_159 0 7 (dk_at dksX1_turn_0 17 rfl rfl)
theorem dX1_turn_20 : decode cX1_turn 20 = .ok (.iconst 1, 1) := dk_4 (dk_at dksX1_turn_0 20 rfl rfl)
theorem dX1_turn_21 : decode cX1_turn 21 = .ok (.goto 4, 3) := dk_167 0 4 (dk_at dksX1_turn_0 21 rfl rfl)
theorem dX1_turn_24 : decode cX1_turn 24 = .ok (.iconst 0, 1) := dk_3 (dk_at dksX1_turn_1 0 rfl rfl)
theorem dX1_turn_25 : decode cX1_turn 25 = .ok (.invokestatic 99, 3) := dk_184 0 99 (dk_at dksX1_turn_1 1 rfl rfl)
theorem dX1_turn_28 : decode cX1_turn 28 = .ok (.aload_n 0, 1) := dk_42 (dk_at dksX1_turn_1 4 rfl rfl)
theorem dX1_turn_29 : decode cX1_turn 29 = .ok (.invokevirtual 102, 3) := dk_182 0 102 (dk_at dksX1_turn_1 5 rfl rfl)
theorem dX1_turn_32 : decode cX1_turn 32 = .ok (.aload_n 0, 1) := dk_42 (dk_at dksX1_turn_1 8 rfl rfl)
theorem dX1_turn_33 : decode cX1_turn 33 = .ok (.getfield 10, 3) := dk_180 0 10 (dk_at dksX1_turn_1 9 rfl rfl)
theorem dX1_turn_36 : decode cX1_turn 36 = .ok (.iload_n 1, 1) := dk_27 (dk_at dksX1_turn_1 12 rfl rfl)
theorem dX1_turn_37 : decode cX1_turn 37 = .ok (.invokevirtual 136, 3) := dk_182 0 136 (dk_at dksX1_turn_1 13 rfl rfl)
theorem dX1_turn_40 : decode cX1_turn 40 = .ok (.ireturn, 1) := dk_172 (dk_at dksX1_turn_1 16 rfl rfl)
abbrev cX1_jam : ByteArray := prog_1_method_14_code
def yX1_jam : MethodName := ⟨RX1, "jam", "(IZ)I"⟩
def dkwX1_jam_1 : List UInt8 := [167, 0, 4, 3, 62, 42, 180, 0, 10, 180, 0, 113, 27, 28, 84, 29, 172]
abbrev dktX1_jam_1 : List UInt8 := dkwX1_jam_1 ++ []
def dkwX1_jam_0 : List UInt8 := [27, 184, 0, 75, 184, 0, 79, 42, 182, 0, 102, 42, 180, 0, 10, 180, 0, 113, 27, 51, 153, 0, 7, 4]
abbrev dktX1_jam_0 : List UInt8 := dkwX1_jam_0 ++ dktX1_jam_1
theorem dksX1_jam_0 : cX1_jam.data.toList.drop 0 = dktX1_jam_0 := by decide +kernel
theorem dksX1_jam_1 : cX1_jam.data.toList.drop 24 = dktX1_jam_1 := dk_seg dksX1_jam_0 24 rfl rfl
theorem dX1_jam_0 : decode cX1_jam 0 = .ok (.iload_n 1, 1) := dk_27 (dk_at dksX1_jam_0 0 rfl rfl)
theorem dX1_jam_1 : decode cX1_jam 1 = .ok (.invokestatic 75, 3) := dk_184 0 75 (dk_at dksX1_jam_0 1 rfl rfl)
theorem dX1_jam_4 : decode cX1_jam 4 = .ok (.invokestatic 79, 3) := dk_184 0 79 (dk_at dksX1_jam_0 4 rfl rfl)
theorem dX1_jam_7 : decode cX1_jam 7 = .ok (.aload_n 0, 1) := dk_42 (dk_at dksX1_jam_0 7 rfl rfl)
theorem dX1_jam_8 : decode cX1_jam 8 = .ok (.invokevirtual 102, 3) := dk_182 0 102 (dk_at dksX1_jam_0 8 rfl rfl)
theorem dX1_jam_11 : decode cX1_jam 11 = .ok (.aload_n 0, 1) := dk_42 (dk_at dksX1_jam_0 11 rfl rfl)
theorem dX1_jam_12 : decode cX1_jam 12 = .ok (.getfield 10, 3) := dk_180 0 10 (dk_at dksX1_jam_0 12 rfl rfl)
theorem dX1_jam_15 : decode cX1_jam 15 = .ok (.getfield 113, 3) := dk_180 0 113 (dk_at dksX1_jam_0 15 rfl rfl)
theorem dX1_jam_18 : decode cX1_jam 18 = .ok (.iload_n 1, 1) := dk_27 (dk_at dksX1_jam_0 18 rfl rfl)
theorem dX1_jam_19 : decode cX1_jam 19 = .ok (.baload, 1) := dk_51 (dk_at dksX1_jam_0 19 rfl rfl)
theorem dX1_jam_20 : decode cX1_jam 20 = .ok (.ifCond .eq 7, 3) := dk_153 0 7 (dk_at dksX1_jam_0 20 rfl rfl)
theorem dX1_jam_23 : decode cX1_jam 23 = .ok (.iconst 1, 1) := dk_4 (dk_at dksX1_jam_0 23 rfl rfl)
theorem dX1_jam_24 : decode cX1_jam 24 = .ok (.goto 4, 3) := dk_167 0 4 (dk_at dksX1_jam_1 0 rfl rfl)
theorem dX1_jam_27 : decode cX1_jam 27 = .ok (.iconst 0, 1) := dk_3 (dk_at dksX1_jam_1 3 rfl rfl)
theorem dX1_jam_28 : decode cX1_jam 28 = .ok (.istore_n 3, 1) := dk_62 (dk_at dksX1_jam_1 4 rfl rfl)
theorem dX1_jam_29 : decode cX1_jam 29 = .ok (.aload_n 0, 1) := dk_42 (dk_at dksX1_jam_1 5 rfl rfl)
theorem dX1_jam_30 : decode cX1_jam 30 = .ok (.getfield 10, 3) := dk_180 0 10 (dk_at dksX1_jam_1 6 rfl rfl)
theorem dX1_jam_33 : decode cX1_jam 33 = .ok (.getfield 113, 3) := dk_180 0 113 (dk_at dksX1_jam_1 9 rfl rfl)
theorem dX1_jam_36 : decode cX1_jam 36 = .ok (.iload_n 1, 1) := dk_27 (dk_at dksX1_jam_1 12 rfl rfl)
theorem dX1_jam_37 : decode cX1_jam 37 = .ok (.iload_n 2, 1) := dk_28 (dk_at dksX1_jam_1 13 rfl rfl)
theorem dX1_jam_38 : decode cX1_jam 38 = .ok (.bastore, 1) := dk_84 (dk_at dksX1_jam_1 14 rfl rfl)
theorem dX1_jam_39 : decode cX1_jam 39 = .ok (.iload_n 3, 1) := dk_29 (dk_at dksX1_jam_1 15 rfl rfl)
theorem dX1_jam_40 : decode cX1_jam 40 = .ok (.ireturn, 1) := dk_172 (dk_at dksX1_jam_1 16 rfl rfl)
abbrev cX1_set : ByteArray := prog_1_method_17_code
def yX1_set : MethodName := ⟨RX1, "set", "(II)I"⟩
def dkwX1_set_3 : List UInt8 := [172]
abbrev dktX1_set_3 : List UInt8 := dkwX1_set_3 ++ []
def dkwX1_set_2 : List UInt8 := [182, 0, 102, 42, 180, 0, 10, 180, 0, 68, 27, 46, 62, 42, 180, 0, 10, 180, 0, 68, 27, 28, 79, 29]
abbrev dktX1_set_2 : List UInt8 := dkwX1_set_2 ++ dktX1_set_3
def dkwX1_set_1 : List UInt8 := [27, 4, 160, 0, 11, 42, 182, 0, 154, 28, 163, 0, 7, 4, 167, 0, 4, 3, 184, 0, 99, 42]
abbrev dktX1_set_1 : List UInt8 := dkwX1_set_1 ++ dktX1_set_2
def dkwX1_set_0 : List UInt8 := [27, 184, 0, 145, 184, 0, 79, 28, 178, 0, 148, 27, 46, 178, 0, 151, 27, 46, 184, 0, 60, 184, 0, 86]
abbrev dktX1_set_0 : List UInt8 := dkwX1_set_0 ++ dktX1_set_1
theorem dksX1_set_0 : cX1_set.data.toList.drop 0 = dktX1_set_0 := by decide +kernel
theorem dksX1_set_1 : cX1_set.data.toList.drop 24 = dktX1_set_1 := dk_seg dksX1_set_0 24 rfl rfl
theorem dksX1_set_2 : cX1_set.data.toList.drop 46 = dktX1_set_2 := dk_seg dksX1_set_1 22 rfl rfl
theorem dksX1_set_3 : cX1_set.data.toList.drop 70 = dktX1_set_3 := dk_seg dksX1_set_2 24 rfl rfl
theorem dX1_set_0 : decode cX1_set 0 = .ok (.iload_n 1, 1) := dk_27 (dk_at dksX1_set_0 0 rfl rfl)
theorem dX1_set_1 : decode cX1_set 1 = .ok (.invokestatic 145, 3) := dk_184 0 145 (dk_at dksX1_set_0 1 rfl rfl)
theorem dX1_set_4 : decode cX1_set 4 = .ok (.invokestatic 79, 3) := dk_184 0 79 (dk_at dksX1_set_0 4 rfl rfl)
theorem dX1_set_7 : decode cX1_set 7 = .ok (.iload_n 2, 1) := dk_28 (dk_at dksX1_set_0 7 rfl rfl)
theorem dX1_set_8 : decode cX1_set 8 = .ok (.getstatic 148, 3) := dk_178 0 148 (dk_at dksX1_set_0 8 rfl rfl)
theorem dX1_set_11 : decode cX1_set 11 = .ok (.iload_n 1, 1) := dk_27 (dk_at dksX1_set_0 11 rfl rfl)
theorem dX1_set_12 : decode cX1_set 12 = .ok (.iaload, 1) := dk_46 (dk_at dksX1_set_0 12 rfl rfl)
theorem dX1_set_13 : decode cX1_set 13 = .ok (.getstatic 151, 3) := dk_178 0 151 (dk_at dksX1_set_0 13 rfl rfl)
theorem dX1_set_16 : decode cX1_set 16 = .ok (.iload_n 1, 1) := dk_27 (dk_at dksX1_set_0 16 rfl rfl)
theorem dX1_set_17 : decode cX1_set 17 = .ok (.iaload, 1) := dk_46 (dk_at dksX1_set_0 17 rfl rfl)
theorem dX1_set_18 : decode cX1_set 18 = .ok (.invokestatic 60, 3) := dk_184 0 60 (dk_at dksX1_set_0 18 rfl rfl)
theorem dX1_set_21 : decode cX1_set 21 = .ok (.invokestatic 86, 3) := dk_184 0 86 (dk_at dksX1_set_0 21 rfl rfl)
theorem dX1_set_24 : decode cX1_set 24 = .ok (.iload_n 1, 1) := dk_27 (dk_at dksX1_set_1 0 rfl rfl)
theorem dX1_set_25 : decode cX1_set 25 = .ok (.iconst 1, 1) := dk_4 (dk_at dksX1_set_1 1 rfl rfl)
theorem dX1_set_26 : decode cX1_set 26 = .ok (.if_icmp .ne 11, 3) := dk_160 0 11 (dk_at dksX1_set_1 2 rfl rfl)
theorem dX1_set_29 : decode cX1_set 29 = .ok (.aload_n 0, 1) := dk_42 (dk_at dksX1_set_1 5 rfl rfl)
theorem dX1_set_30 : decode cX1_set 30 = .ok (.invokevirtual 154, 3) := dk_182 0 154 (dk_at dksX1_set_1 6 rfl rfl)
theorem dX1_set_33 : decode cX1_set 33 = .ok (.iload_n 2, 1) := dk_28 (dk_at dksX1_set_1 9 rfl rfl)
theorem dX1_set_34 : decode cX1_set 34 = .ok (.if_icmp .gt 7, 3) := dk_163 0 7 (dk_at dksX1_set_1 10 rfl rfl)
theorem dX1_set_37 : decode cX1_set 37 = .ok (.iconst 1, 1) := dk_4 (dk_at dksX1_set_1 13 rfl rfl)
theorem dX1_set_38 : decode cX1_set 38 = .ok (.goto 4, 3) := dk_167 0 4 (dk_at dksX1_set_1 14 rfl rfl)
theorem dX1_set_41 : decode cX1_set 41 = .ok (.iconst 0, 1) := dk_3 (dk_at dksX1_set_1 17 rfl rfl)
theorem dX1_set_42 : decode cX1_set 42 = .ok (.invokestatic 99, 3) := dk_184 0 99 (dk_at dksX1_set_1 18 rfl rfl)
theorem dX1_set_45 : decode cX1_set 45 = .ok (.aload_n 0, 1) := dk_42 (dk_at dksX1_set_1 21 rfl rfl)
theorem dX1_set_46 : decode cX1_set 46 = .ok (.invokevirtual 102, 3) := dk_182 0 102 (dk_at dksX1_set_2 0 rfl rfl)
theorem dX1_set_49 : decode cX1_set 49 = .ok (.aload_n 0, 1) := dk_42 (dk_at dksX1_set_2 3 rfl rfl)
theorem dX1_set_50 : decode cX1_set 50 = .ok (.getfield 10, 3) := dk_180 0 10 (dk_at dksX1_set_2 4 rfl rfl)
theorem dX1_set_53 : decode cX1_set 53 = .ok (.getfield 68, 3) := dk_180 0 68 (dk_at dksX1_set_2 7 rfl rfl)
theorem dX1_set_56 : decode cX1_set 56 = .ok (.iload_n 1, 1) := dk_27 (dk_at dksX1_set_2 10 rfl rfl)
theorem dX1_set_57 : decode cX1_set 57 = .ok (.iaload, 1) := dk_46 (dk_at dksX1_set_2 11 rfl rfl)
theorem dX1_set_58 : decode cX1_set 58 = .ok (.istore_n 3, 1) := dk_62 (dk_at dksX1_set_2 12 rfl rfl)
theorem dX1_set_59 : decode cX1_set 59 = .ok (.aload_n 0, 1) := dk_42 (dk_at dksX1_set_2 13 rfl rfl)
theorem dX1_set_60 : decode cX1_set 60 = .ok (.getfield 10, 3) := dk_180 0 10 (dk_at dksX1_set_2 14 rfl rfl)
theorem dX1_set_63 : decode cX1_set 63 = .ok (.getfield 68, 3) := dk_180 0 68 (dk_at dksX1_set_2 17 rfl rfl)
theorem dX1_set_66 : decode cX1_set 66 = .ok (.iload_n 1, 1) := dk_27 (dk_at dksX1_set_2 20 rfl rfl)
theorem dX1_set_67 : decode cX1_set 67 = .ok (.iload_n 2, 1) := dk_28 (dk_at dksX1_set_2 21 rfl rfl)
theorem dX1_set_68 : decode cX1_set 68 = .ok (.iastore, 1) := dk_79 (dk_at dksX1_set_2 22 rfl rfl)
theorem dX1_set_69 : decode cX1_set 69 = .ok (.iload_n 3, 1) := dk_29 (dk_at dksX1_set_2 23 rfl rfl)
theorem dX1_set_70 : decode cX1_set 70 = .ok (.ireturn, 1) := dk_172 (dk_at dksX1_set_3 0 rfl rfl)
abbrev cX1_isSetting : ByteArray := prog_1_method_15_code
def yX1_isSetting : MethodName := ⟨RX1, "isSetting", "(I)Z"⟩
def dkwX1_isSetting_0 : List UInt8 := [26, 3, 5, 184, 0, 60, 172]
abbrev dktX1_isSetting_0 : List UInt8 := dkwX1_isSetting_0 ++ []
theorem dksX1_isSetting_0 : cX1_isSetting.data.toList.drop 0 = dktX1_isSetting_0 := by decide +kernel
theorem dX1_isSetting_0 : decode cX1_isSetting 0 = .ok (.iload_n 0, 1) := dk_26 (dk_at dksX1_isSetting_0 0 rfl rfl)
theorem dX1_isSetting_1 : decode cX1_isSetting 1 = .ok (.iconst 0, 1) := dk_3 (dk_at dksX1_isSetting_0 1 rfl rfl)
theorem dX1_isSetting_2 : decode cX1_isSetting 2 = .ok (.iconst 2, 1) := dk_5 (dk_at dksX1_isSetting_0 2 rfl rfl)
theorem dX1_isSetting_3 : decode cX1_isSetting 3 = .ok (.invokestatic 60, 3) := dk_184 0 60 (dk_at dksX1_isSetting_0 3 rfl rfl)
theorem dX1_isSetting_6 : decode cX1_isSetting 6 = .ok (.ireturn, 1) := dk_172 (dk_at dksX1_isSetting_0 6 rfl rfl)
abbrev cX1_append : ByteArray := prog_1_method_18_code
def yX1_append : MethodName := ⟨RX1, "append", "(I)I"⟩
def dkwX1_append_2 : List UInt8 := [172]
abbrev dktX1_append_2 : List UInt8 := dkwX1_append_2 ++ []
def dkwX1_append_1 : List UInt8 := [167, 0, 4, 3, 184, 0, 99, 42, 180, 0, 31, 27, 146, 182, 0, 160, 87, 42, 180, 0, 31, 182, 0, 157]
abbrev dktX1_append_1 : List UInt8 := dkwX1_append_1 ++ dktX1_append_2
def dkwX1_append_0 : List UInt8 := [27, 16, 33, 16, 126, 184, 0, 60, 184, 0, 86, 42, 180, 0, 31, 182, 0, 157, 16, 60, 162, 0, 7, 4]
abbrev dktX1_append_0 : List UInt8 := dkwX1_append_0 ++ dktX1_append_1
theorem dksX1_append_0 : cX1_append.data.toList.drop 0 = dktX1_append_0 := by decide +kernel
theorem dksX1_append_1 : cX1_append.data.toList.drop 24 = dktX1_append_1 := dk_seg dksX1_append_0 24 rfl rfl
theorem dksX1_append_2 : cX1_append.data.toList.drop 48 = dktX1_append_2 := dk_seg dksX1_append_1 24 rfl rfl
theorem dX1_append_0 : decode cX1_append 0 = .ok (.iload_n 1, 1) := dk_27 (dk_at dksX1_append_0 0 rfl rfl)
theorem dX1_append_1 : decode cX1_append 1 = .ok (.bipush 33, 2) := dk_16 33 (dk_at dksX1_append_0 1 rfl rfl)
theorem dX1_append_3 : decode cX1_append 3 = .ok (.bipush 126, 2) := dk_16 126 (dk_at dksX1_append_0 3 rfl rfl)
theorem dX1_append_5 : decode cX1_append 5 = .ok (.invokestatic 60, 3) := dk_184 0 60 (dk_at dksX1_append_0 5 rfl rfl)
theorem dX1_append_8 : decode cX1_append 8 = .ok (.invokestatic 86, 3) := dk_184 0 86 (dk_at dksX1_append_0 8 rfl rfl)
theorem dX1_append_11 : decode cX1_append 11 = .ok (.aload_n 0, 1) := dk_42 (dk_at dksX1_append_0 11 rfl rfl)
theorem dX1_append_12 : decode cX1_append 12 = .ok (.getfield 31, 3) := dk_180 0 31 (dk_at dksX1_append_0 12 rfl rfl)
theorem dX1_append_15 : decode cX1_append 15 = .ok (.invokevirtual 157, 3) := dk_182 0 157 (dk_at dksX1_append_0 15 rfl rfl)
theorem dX1_append_18 : decode cX1_append 18 = .ok (.bipush 60, 2) := dk_16 60 (dk_at dksX1_append_0 18 rfl rfl)
theorem dX1_append_20 : decode cX1_append 20 = .ok (.if_icmp .ge 7, 3) := dk_162 0 7 (dk_at dksX1_append_0 20 rfl rfl)
theorem dX1_append_23 : decode cX1_append 23 = .ok (.iconst 1, 1) := dk_4 (dk_at dksX1_append_0 23 rfl rfl)
theorem dX1_append_24 : decode cX1_append 24 = .ok (.goto 4, 3) := dk_167 0 4 (dk_at dksX1_append_1 0 rfl rfl)
theorem dX1_append_27 : decode cX1_append 27 = .ok (.iconst 0, 1) := dk_3 (dk_at dksX1_append_1 3 rfl rfl)
theorem dX1_append_28 : decode cX1_append 28 = .ok (.invokestatic 99, 3) := dk_184 0 99 (dk_at dksX1_append_1 4 rfl rfl)
theorem dX1_append_31 : decode cX1_append 31 = .ok (.aload_n 0, 1) := dk_42 (dk_at dksX1_append_1 7 rfl rfl)
theorem dX1_append_32 : decode cX1_append 32 = .ok (.getfield 31, 3) := dk_180 0 31 (dk_at dksX1_append_1 8 rfl rfl)
theorem dX1_append_35 : decode cX1_append 35 = .ok (.iload_n 1, 1) := dk_27 (dk_at dksX1_append_1 11 rfl rfl)
theorem dX1_append_36 : decode cX1_append 36 = .ok (.i2c, 1) := dk_146 (dk_at dksX1_append_1 12 rfl rfl)
theorem dX1_append_37 : decode cX1_append 37 = .ok (.invokevirtual 160, 3) := dk_182 0 160 (dk_at dksX1_append_1 13 rfl rfl)
theorem dX1_append_40 : decode cX1_append 40 = .ok (.pop, 1) := dk_87 (dk_at dksX1_append_1 16 rfl rfl)
theorem dX1_append_41 : decode cX1_append 41 = .ok (.aload_n 0, 1) := dk_42 (dk_at dksX1_append_1 17 rfl rfl)
theorem dX1_append_42 : decode cX1_append 42 = .ok (.getfield 31, 3) := dk_180 0 31 (dk_at dksX1_append_1 18 rfl rfl)
theorem dX1_append_45 : decode cX1_append 45 = .ok (.invokevirtual 157, 3) := dk_182 0 157 (dk_at dksX1_append_1 21 rfl rfl)
theorem dX1_append_48 : decode cX1_append 48 = .ok (.ireturn, 1) := dk_172 (dk_at dksX1_append_2 0 rfl rfl)
abbrev cX1_pickAll : ByteArray := prog_1_method_21_code
def yX1_pickAll : MethodName := ⟨RX1, "pickAll", "()I"⟩
def dkwX1_pickAll_2 : List UInt8 := [100, 182, 0, 182, 192, 0, 7, 42, 180, 0, 10, 180, 0, 68, 5, 46, 182, 0, 185, 172]
abbrev dktX1_pickAll_2 : List UInt8 := dkwX1_pickAll_2 ++ []
def dkwX1_pickAll_1 : List UInt8 := [3, 182, 0, 164, 43, 180, 0, 178, 42, 180, 0, 10, 42, 180, 0, 22, 42, 180, 0, 22, 182, 0, 35, 4]
abbrev dktX1_pickAll_1 : List UInt8 := dkwX1_pickAll_1 ++ dktX1_pickAll_2
def dkwX1_pickAll_0 : List UInt8 := [187, 0, 167, 89, 42, 183, 0, 169, 76, 43, 182, 0, 172, 184, 0, 86, 42, 182, 0, 102, 42, 180, 0, 31]
abbrev dktX1_pickAll_0 : List UInt8 := dkwX1_pickAll_0 ++ dktX1_pickAll_1
theorem dksX1_pickAll_0 : cX1_pickAll.data.toList.drop 0 = dktX1_pickAll_0 := by decide +kernel
theorem dksX1_pickAll_1 : cX1_pickAll.data.toList.drop 24 = dktX1_pickAll_1 := dk_seg dksX1_pickAll_0 24 rfl rfl
theorem dksX1_pickAll_2 : cX1_pickAll.data.toList.drop 48 = dktX1_pickAll_2 := dk_seg dksX1_pickAll_1 24 rfl rfl
theorem dX1_pickAll_0 : decode cX1_pickAll 0 = .ok (.new 167, 3) := dk_187 0 167 (dk_at dksX1_pickAll_0 0 rfl rfl)
theorem dX1_pickAll_3 : decode cX1_pickAll 3 = .ok (.dup, 1) := dk_89 (dk_at dksX1_pickAll_0 3 rfl rfl)
theorem dX1_pickAll_4 : decode cX1_pickAll 4 = .ok (.aload_n 0, 1) := dk_42 (dk_at dksX1_pickAll_0 4 rfl rfl)
theorem dX1_pickAll_5 : decode cX1_pickAll 5 = .ok (.invokespecial 169, 3) := dk_183 0 169 (dk_at dksX1_pickAll_0 5 rfl rfl)
theorem dX1_pickAll_8 : decode cX1_pickAll 8 = .ok (.astore_n 1, 1) := dk_76 (dk_at dksX1_pickAll_0 8 rfl rfl)
theorem dX1_pickAll_9 : decode cX1_pickAll 9 = .ok (.aload_n 1, 1) := dk_43 (dk_at dksX1_pickAll_0 9 rfl rfl)
theorem dX1_pickAll_10 : decode cX1_pickAll 10 = .ok (.invokevirtual 172, 3) := dk_182 0 172 (dk_at dksX1_pickAll_0 10 rfl rfl)
theorem dX1_pickAll_13 : decode cX1_pickAll 13 = .ok (.invokestatic 86, 3) := dk_184 0 86 (dk_at dksX1_pickAll_0 13 rfl rfl)
theorem dX1_pickAll_16 : decode cX1_pickAll 16 = .ok (.aload_n 0, 1) := dk_42 (dk_at dksX1_pickAll_0 16 rfl rfl)
theorem dX1_pickAll_17 : decode cX1_pickAll 17 = .ok (.invokevirtual 102, 3) := dk_182 0 102 (dk_at dksX1_pickAll_0 17 rfl rfl)
theorem dX1_pickAll_20 : decode cX1_pickAll 20 = .ok (.aload_n 0, 1) := dk_42 (dk_at dksX1_pickAll_0 20 rfl rfl)
theorem dX1_pickAll_21 : decode cX1_pickAll 21 = .ok (.getfield 31, 3) := dk_180 0 31 (dk_at dksX1_pickAll_0 21 rfl rfl)
theorem dX1_pickAll_24 : decode cX1_pickAll 24 = .ok (.iconst 0, 1) := dk_3 (dk_at dksX1_pickAll_1 0 rfl rfl)
theorem dX1_pickAll_25 : decode cX1_pickAll 25 = .ok (.invokevirtual 164, 3) := dk_182 0 164 (dk_at dksX1_pickAll_1 1 rfl rfl)
theorem dX1_pickAll_28 : decode cX1_pickAll 28 = .ok (.aload_n 1, 1) := dk_43 (dk_at dksX1_pickAll_1 4 rfl rfl)
theorem dX1_pickAll_29 : decode cX1_pickAll 29 = .ok (.getfield 178, 3) := dk_180 0 178 (dk_at dksX1_pickAll_1 5 rfl rfl)
theorem dX1_pickAll_32 : decode cX1_pickAll 32 = .ok (.aload_n 0, 1) := dk_42 (dk_at dksX1_pickAll_1 8 rfl rfl)
theorem dX1_pickAll_33 : decode cX1_pickAll 33 = .ok (.getfield 10, 3) := dk_180 0 10 (dk_at dksX1_pickAll_1 9 rfl rfl)
theorem dX1_pickAll_36 : decode cX1_pickAll 36 = .ok (.aload_n 0, 1) := dk_42 (dk_at dksX1_pickAll_1 12 rfl rfl)
theorem dX1_pickAll_37 : decode cX1_pickAll 37 = .ok (.getfield 22, 3) := dk_180 0 22 (dk_at dksX1_pickAll_1 13 rfl rfl)
theorem dX1_pickAll_40 : decode cX1_pickAll 40 = .ok (.aload_n 0, 1) := dk_42 (dk_at dksX1_pickAll_1 16 rfl rfl)
theorem dX1_pickAll_41 : decode cX1_pickAll 41 = .ok (.getfield 22, 3) := dk_180 0 22 (dk_at dksX1_pickAll_1 17 rfl rfl)
theorem dX1_pickAll_44 : decode cX1_pickAll 44 = .ok (.invokevirtual 35, 3) := dk_182 0 35 (dk_at dksX1_pickAll_1 20 rfl rfl)
theorem dX1_pickAll_47 : decode cX1_pickAll 47 = .ok (.iconst 1, 1) := dk_4 (dk_at dksX1_pickAll_1 23 rfl rfl)
theorem dX1_pickAll_48 : decode cX1_pickAll 48 = .ok (.isub, 1) := dk_100 (dk_at dksX1_pickAll_2 0 rfl rfl)
theorem dX1_pickAll_49 : decode cX1_pickAll 49 = .ok (.invokevirtual 182, 3) := dk_182 0 182 (dk_at dksX1_pickAll_2 1 rfl rfl)
theorem dX1_pickAll_52 : decode cX1_pickAll 52 = .ok (.checkcast 7, 3) := dk_192 0 7 (dk_at dksX1_pickAll_2 4 rfl rfl)
theorem dX1_pickAll_55 : decode cX1_pickAll 55 = .ok (.aload_n 0, 1) := dk_42 (dk_at dksX1_pickAll_2 7 rfl rfl)
theorem dX1_pickAll_56 : decode cX1_pickAll 56 = .ok (.getfield 10, 3) := dk_180 0 10 (dk_at dksX1_pickAll_2 8 rfl rfl)
theorem dX1_pickAll_59 : decode cX1_pickAll 59 = .ok (.getfield 68, 3) := dk_180 0 68 (dk_at dksX1_pickAll_2 11 rfl rfl)
theorem dX1_pickAll_62 : decode cX1_pickAll 62 = .ok (.iconst 2, 1) := dk_5 (dk_at dksX1_pickAll_2 14 rfl rfl)
theorem dX1_pickAll_63 : decode cX1_pickAll 63 = .ok (.iaload, 1) := dk_46 (dk_at dksX1_pickAll_2 15 rfl rfl)
theorem dX1_pickAll_64 : decode cX1_pickAll 64 = .ok (.invokevirtual 185, 3) := dk_182 0 185 (dk_at dksX1_pickAll_2 16 rfl rfl)
theorem dX1_pickAll_67 : decode cX1_pickAll 67 = .ok (.ireturn, 1) := dk_172 (dk_at dksX1_pickAll_2 19 rfl rfl)
abbrev cX1_undo : ByteArray := prog_1_method_22_code
def yX1_undo : MethodName := ⟨RX1, "undo", "()I"⟩
def dkwX1_undo_2 : List UInt8 := [180, 0, 22, 182, 0, 35, 172]
abbrev dktX1_undo_2 : List UInt8 := dkwX1_undo_2 ++ []
def dkwX1_undo_1 : List UInt8 := [180, 0, 22, 42, 180, 0, 22, 182, 0, 35, 4, 100, 182, 0, 39, 192, 0, 7, 182, 0, 43, 42]
abbrev dktX1_undo_1 : List UInt8 := dkwX1_undo_1 ++ dktX1_undo_2
def dkwX1_undo_0 : List UInt8 := [42, 180, 0, 22, 182, 0, 190, 154, 0, 7, 4, 167, 0, 4, 3, 184, 0, 99, 42, 180, 0, 10, 42]
abbrev dktX1_undo_0 : List UInt8 := dkwX1_undo_0 ++ dktX1_undo_1
theorem dksX1_undo_0 : cX1_undo.data.toList.drop 0 = dktX1_undo_0 := by decide +kernel
theorem dksX1_undo_1 : cX1_undo.data.toList.drop 23 = dktX1_undo_1 := dk_seg dksX1_undo_0 23 rfl rfl
theorem dksX1_undo_2 : cX1_undo.data.toList.drop 45 = dktX1_undo_2 := dk_seg dksX1_undo_1 22 rfl rfl
theorem dX1_undo_0 : decode cX1_undo 0 = .ok (.aload_n 0, 1) := dk_42 (dk_at dksX1_undo_0 0 rfl rfl)
theorem dX1_undo_1 : decode cX1_undo 1 = .ok (.getfield 22, 3) := dk_180 0 22 (dk_at dksX1_undo_0 1 rfl rfl)
theorem dX1_undo_4 : decode cX1_undo 4 = .ok (.invokevirtual 190, 3) := dk_182 0 190 (dk_at dksX1_undo_0 4 rfl rfl)
theorem dX1_undo_7 : decode cX1_undo 7 = .ok (.ifCond .ne 7, 3) := dk_154 0 7 (dk_at dksX1_undo_0 7 rfl rfl)
theorem dX1_undo_10 : decode cX1_undo 10 = .ok (.iconst 1, 1) := dk_4 (dk_at dksX1_undo_0 10 rfl rfl)
theorem dX1_undo_11 : decode cX1_undo 11 = .ok (.goto 4, 3) := dk_167 0 4 (dk_at dksX1_undo_0 11 rfl rfl)
theorem dX1_undo_14 : decode cX1_undo 14 = .ok (.iconst 0, 1) := dk_3 (dk_at dksX1_undo_0 14 rfl rfl)
theorem dX1_undo_15 : decode cX1_undo 15 = .ok (.invokestatic 99, 3) := dk_184 0 99 (dk_at dksX1_undo_0 15 rfl rfl)
theorem dX1_undo_18 : decode cX1_undo 18 = .ok (.aload_n 0, 1) := dk_42 (dk_at dksX1_undo_0 18 rfl rfl)
theorem dX1_undo_19 : decode cX1_undo 19 = .ok (.getfield 10, 3) := dk_180 0 10 (dk_at dksX1_undo_0 19 rfl rfl)
theorem dX1_undo_22 : decode cX1_undo 22 = .ok (.aload_n 0, 1) := dk_42 (dk_at dksX1_undo_0 22 rfl rfl)
theorem dX1_undo_23 : decode cX1_undo 23 = .ok (.getfield 22, 3) := dk_180 0 22 (dk_at dksX1_undo_1 0 rfl rfl)
theorem dX1_undo_26 : decode cX1_undo 26 = .ok (.aload_n 0, 1) := dk_42 (dk_at dksX1_undo_1 3 rfl rfl)
theorem dX1_undo_27 : decode cX1_undo 27 = .ok (.getfield 22, 3) := dk_180 0 22 (dk_at dksX1_undo_1 4 rfl rfl)
theorem dX1_undo_30 : decode cX1_undo 30 = .ok (.invokevirtual 35, 3) := dk_182 0 35 (dk_at dksX1_undo_1 7 rfl rfl)
theorem dX1_undo_33 : decode cX1_undo 33 = .ok (.iconst 1, 1) := dk_4 (dk_at dksX1_undo_1 10 rfl rfl)
theorem dX1_undo_34 : decode cX1_undo 34 = .ok (.isub, 1) := dk_100 (dk_at dksX1_undo_1 11 rfl rfl)
theorem dX1_undo_35 : decode cX1_undo 35 = .ok (.invokevirtual 39, 3) := dk_182 0 39 (dk_at dksX1_undo_1 12 rfl rfl)
theorem dX1_undo_38 : decode cX1_undo 38 = .ok (.checkcast 7, 3) := dk_192 0 7 (dk_at dksX1_undo_1 15 rfl rfl)
theorem dX1_undo_41 : decode cX1_undo 41 = .ok (.invokevirtual 43, 3) := dk_182 0 43 (dk_at dksX1_undo_1 18 rfl rfl)
theorem dX1_undo_44 : decode cX1_undo 44 = .ok (.aload_n 0, 1) := dk_42 (dk_at dksX1_undo_1 21 rfl rfl)
theorem dX1_undo_45 : decode cX1_undo 45 = .ok (.getfield 22, 3) := dk_180 0 22 (dk_at dksX1_undo_2 0 rfl rfl)
theorem dX1_undo_48 : decode cX1_undo 48 = .ok (.invokevirtual 35, 3) := dk_182 0 35 (dk_at dksX1_undo_2 3 rfl rfl)
theorem dX1_undo_51 : decode cX1_undo 51 = .ok (.ireturn, 1) := dk_172 (dk_at dksX1_undo_2 6 rfl rfl)
abbrev cX1_drawer : ByteArray := prog_1_method_25_code
def yX1_drawer : MethodName := ⟨RX1, "drawer", "(II)I"⟩
def dkwX1_drawer_0 : List UInt8 := [27, 184, 0, 75, 184, 0, 79, 28, 3, 8, 184, 0, 60, 184, 0, 86, 42, 27, 28, 182, 0, 204, 172]
abbrev dktX1_drawer_0 : List UInt8 := dkwX1_drawer_0 ++ []
theorem dksX1_drawer_0 : cX1_drawer.data.toList.drop 0 = dktX1_drawer_0 := by decide +kernel
theorem dX1_drawer_0 : decode cX1_drawer 0 = .ok (.iload_n 1, 1) := dk_27 (dk_at dksX1_drawer_0 0 rfl rfl)
theorem dX1_drawer_1 : decode cX1_drawer 1 = .ok (.invokestatic 75, 3) := dk_184 0 75 (dk_at dksX1_drawer_0 1 rfl rfl)
theorem dX1_drawer_4 : decode cX1_drawer 4 = .ok (.invokestatic 79, 3) := dk_184 0 79 (dk_at dksX1_drawer_0 4 rfl rfl)
theorem dX1_drawer_7 : decode cX1_drawer 7 = .ok (.iload_n 2, 1) := dk_28 (dk_at dksX1_drawer_0 7 rfl rfl)
theorem dX1_drawer_8 : decode cX1_drawer 8 = .ok (.iconst 0, 1) := dk_3 (dk_at dksX1_drawer_0 8 rfl rfl)
theorem dX1_drawer_9 : decode cX1_drawer 9 = .ok (.iconst 5, 1) := dk_8 (dk_at dksX1_drawer_0 9 rfl rfl)
theorem dX1_drawer_10 : decode cX1_drawer 10 = .ok (.invokestatic 60, 3) := dk_184 0 60 (dk_at dksX1_drawer_0 10 rfl rfl)
theorem dX1_drawer_13 : decode cX1_drawer 13 = .ok (.invokestatic 86, 3) := dk_184 0 86 (dk_at dksX1_drawer_0 13 rfl rfl)
theorem dX1_drawer_16 : decode cX1_drawer 16 = .ok (.aload_n 0, 1) := dk_42 (dk_at dksX1_drawer_0 16 rfl rfl)
theorem dX1_drawer_17 : decode cX1_drawer 17 = .ok (.iload_n 1, 1) := dk_27 (dk_at dksX1_drawer_0 17 rfl rfl)
theorem dX1_drawer_18 : decode cX1_drawer 18 = .ok (.iload_n 2, 1) := dk_28 (dk_at dksX1_drawer_0 18 rfl rfl)
theorem dX1_drawer_19 : decode cX1_drawer 19 = .ok (.invokevirtual 204, 3) := dk_182 0 204 (dk_at dksX1_drawer_0 19 rfl rfl)
theorem dX1_drawer_22 : decode cX1_drawer 22 = .ok (.ireturn, 1) := dk_172 (dk_at dksX1_drawer_0 22 rfl rfl)
abbrev cX1_item : ByteArray := prog_1_method_26_code
def yX1_item : MethodName := ⟨RX1, "item", "(II)I"⟩
def dkwX1_item_2 : List UInt8 := [45, 180, 0, 122, 167, 0, 7, 45, 180, 0, 117, 172]
abbrev dktX1_item_2 : List UInt8 := dkwX1_item_2 ++ []
def dkwX1_item_1 : List UInt8 := [184, 0, 86, 42, 180, 0, 10, 27, 182, 0, 109, 78, 45, 199, 0, 7, 2, 167, 0, 18, 28, 154, 0, 10]
abbrev dktX1_item_1 : List UInt8 := dkwX1_item_1 ++ dktX1_item_2
def dkwX1_item_0 : List UInt8 := [27, 3, 42, 180, 0, 10, 180, 0, 92, 4, 100, 184, 0, 60, 184, 0, 79, 28, 3, 4, 184, 0, 60]
abbrev dktX1_item_0 : List UInt8 := dkwX1_item_0 ++ dktX1_item_1
theorem dksX1_item_0 : cX1_item.data.toList.drop 0 = dktX1_item_0 := by decide +kernel
theorem dksX1_item_1 : cX1_item.data.toList.drop 23 = dktX1_item_1 := dk_seg dksX1_item_0 23 rfl rfl
theorem dksX1_item_2 : cX1_item.data.toList.drop 47 = dktX1_item_2 := dk_seg dksX1_item_1 24 rfl rfl
theorem dX1_item_0 : decode cX1_item 0 = .ok (.iload_n 1, 1) := dk_27 (dk_at dksX1_item_0 0 rfl rfl)
theorem dX1_item_1 : decode cX1_item 1 = .ok (.iconst 0, 1) := dk_3 (dk_at dksX1_item_0 1 rfl rfl)
theorem dX1_item_2 : decode cX1_item 2 = .ok (.aload_n 0, 1) := dk_42 (dk_at dksX1_item_0 2 rfl rfl)
theorem dX1_item_3 : decode cX1_item 3 = .ok (.getfield 10, 3) := dk_180 0 10 (dk_at dksX1_item_0 3 rfl rfl)
theorem dX1_item_6 : decode cX1_item 6 = .ok (.getfield 92, 3) := dk_180 0 92 (dk_at dksX1_item_0 6 rfl rfl)
theorem dX1_item_9 : decode cX1_item 9 = .ok (.iconst 1, 1) := dk_4 (dk_at dksX1_item_0 9 rfl rfl)
theorem dX1_item_10 : decode cX1_item 10 = .ok (.isub, 1) := dk_100 (dk_at dksX1_item_0 10 rfl rfl)
theorem dX1_item_11 : decode cX1_item 11 = .ok (.invokestatic 60, 3) := dk_184 0 60 (dk_at dksX1_item_0 11 rfl rfl)
theorem dX1_item_14 : decode cX1_item 14 = .ok (.invokestatic 79, 3) := dk_184 0 79 (dk_at dksX1_item_0 14 rfl rfl)
theorem dX1_item_17 : decode cX1_item 17 = .ok (.iload_n 2, 1) := dk_28 (dk_at dksX1_item_0 17 rfl rfl)
theorem dX1_item_18 : decode cX1_item 18 = .ok (.iconst 0, 1) := dk_3 (dk_at dksX1_item_0 18 rfl rfl)
theorem dX1_item_19 : decode cX1_item 19 = .ok (.iconst 1, 1) := dk_4 (dk_at dksX1_item_0 19 rfl rfl)
theorem dX1_item_20 : decode cX1_item 20 = .ok (.invokestatic 60, 3) := dk_184 0 60 (dk_at dksX1_item_0 20 rfl rfl)
theorem dX1_item_23 : decode cX1_item 23 = .ok (.invokestatic 86, 3) := dk_184 0 86 (dk_at dksX1_item_1 0 rfl rfl)
theorem dX1_item_26 : decode cX1_item 26 = .ok (.aload_n 0, 1) := dk_42 (dk_at dksX1_item_1 3 rfl rfl)
theorem dX1_item_27 : decode cX1_item 27 = .ok (.getfield 10, 3) := dk_180 0 10 (dk_at dksX1_item_1 4 rfl rfl)
theorem dX1_item_30 : decode cX1_item 30 = .ok (.iload_n 1, 1) := dk_27 (dk_at dksX1_item_1 7 rfl rfl)
theorem dX1_item_31 : decode cX1_item 31 = .ok (.invokevirtual 109, 3) := dk_182 0 109 (dk_at dksX1_item_1 8 rfl rfl)
theorem dX1_item_34 : decode cX1_item 34 = .ok (.astore_n 3, 1) := dk_78 (dk_at dksX1_item_1 11 rfl rfl)
theorem dX1_item_35 : decode cX1_item 35 = .ok (.aload_n 3, 1) := dk_45 (dk_at dksX1_item_1 12 rfl rfl)
theorem dX1_item_36 : decode cX1_item 36 = .ok (.ifnonnull 7, 3) := dk_199 0 7 (dk_at dksX1_item_1 13 rfl rfl)
theorem dX1_item_39 : decode cX1_item 39 = .ok (.iconst (-1), 1) := dk_2 (dk_at dksX1_item_1 16 rfl rfl)
theorem dX1_item_40 : decode cX1_item 40 = .ok (.goto 18, 3) := dk_167 0 18 (dk_at dksX1_item_1 17 rfl rfl)
theorem dX1_item_43 : decode cX1_item 43 = .ok (.iload_n 2, 1) := dk_28 (dk_at dksX1_item_1 20 rfl rfl)
theorem dX1_item_44 : decode cX1_item 44 = .ok (.ifCond .ne 10, 3) := dk_154 0 10 (dk_at dksX1_item_1 21 rfl rfl)
theorem dX1_item_47 : decode cX1_item 47 = .ok (.aload_n 3, 1) := dk_45 (dk_at dksX1_item_2 0 rfl rfl)
theorem dX1_item_48 : decode cX1_item 48 = .ok (.getfield 122, 3) := dk_180 0 122 (dk_at dksX1_item_2 1 rfl rfl)
theorem dX1_item_51 : decode cX1_item 51 = .ok (.goto 7, 3) := dk_167 0 7 (dk_at dksX1_item_2 4 rfl rfl)
theorem dX1_item_54 : decode cX1_item 54 = .ok (.aload_n 3, 1) := dk_45 (dk_at dksX1_item_2 7 rfl rfl)
theorem dX1_item_55 : decode cX1_item 55 = .ok (.getfield 117, 3) := dk_180 0 117 (dk_at dksX1_item_2 8 rfl rfl)
theorem dX1_item_58 : decode cX1_item 58 = .ok (.ireturn, 1) := dk_172 (dk_at dksX1_item_2 11 rfl rfl)
abbrev cX1_count : ByteArray := prog_1_method_30_code
def yX1_count : MethodName := ⟨RX1, "count", "(I)I"⟩
def dkwX1_count_0 : List UInt8 := [27, 3, 16, 10, 184, 0, 60, 184, 0, 86, 42, 27, 182, 0, 228, 172]
abbrev dktX1_count_0 : List UInt8 := dkwX1_count_0 ++ []
theorem dksX1_count_0 : cX1_count.data.toList.drop 0 = dktX1_count_0 := by decide +kernel
theorem dX1_count_0 : decode cX1_count 0 = .ok (.iload_n 1, 1) := dk_27 (dk_at dksX1_count_0 0 rfl rfl)
theorem dX1_count_1 : decode cX1_count 1 = .ok (.iconst 0, 1) := dk_3 (dk_at dksX1_count_0 1 rfl rfl)
theorem dX1_count_2 : decode cX1_count 2 = .ok (.bipush 10, 2) := dk_16 10 (dk_at dksX1_count_0 2 rfl rfl)
theorem dX1_count_4 : decode cX1_count 4 = .ok (.invokestatic 60, 3) := dk_184 0 60 (dk_at dksX1_count_0 4 rfl rfl)
theorem dX1_count_7 : decode cX1_count 7 = .ok (.invokestatic 86, 3) := dk_184 0 86 (dk_at dksX1_count_0 7 rfl rfl)
theorem dX1_count_10 : decode cX1_count 10 = .ok (.aload_n 0, 1) := dk_42 (dk_at dksX1_count_0 10 rfl rfl)
theorem dX1_count_11 : decode cX1_count 11 = .ok (.iload_n 1, 1) := dk_27 (dk_at dksX1_count_0 11 rfl rfl)
theorem dX1_count_12 : decode cX1_count 12 = .ok (.invokevirtual 228, 3) := dk_182 0 228 (dk_at dksX1_count_0 12 rfl rfl)
theorem dX1_count_15 : decode cX1_count 15 = .ok (.ireturn, 1) := dk_172 (dk_at dksX1_count_0 15 rfl rfl)
abbrev cX1_setting : ByteArray := prog_1_method_31_code
def yX1_setting : MethodName := ⟨RX1, "setting", "(I)I"⟩
def dkwX1_setting_0 : List UInt8 := [27, 184, 0, 145, 184, 0, 79, 42, 180, 0, 10, 180, 0, 68, 27, 46, 172]
abbrev dktX1_setting_0 : List UInt8 := dkwX1_setting_0 ++ []
theorem dksX1_setting_0 : cX1_setting.data.toList.drop 0 = dktX1_setting_0 := by decide +kernel
theorem dX1_setting_0 : decode cX1_setting 0 = .ok (.iload_n 1, 1) := dk_27 (dk_at dksX1_setting_0 0 rfl rfl)
theorem dX1_setting_1 : decode cX1_setting 1 = .ok (.invokestatic 145, 3) := dk_184 0 145 (dk_at dksX1_setting_0 1 rfl rfl)
theorem dX1_setting_4 : decode cX1_setting 4 = .ok (.invokestatic 79, 3) := dk_184 0 79 (dk_at dksX1_setting_0 4 rfl rfl)
theorem dX1_setting_7 : decode cX1_setting 7 = .ok (.aload_n 0, 1) := dk_42 (dk_at dksX1_setting_0 7 rfl rfl)
theorem dX1_setting_8 : decode cX1_setting 8 = .ok (.getfield 10, 3) := dk_180 0 10 (dk_at dksX1_setting_0 8 rfl rfl)
theorem dX1_setting_11 : decode cX1_setting 11 = .ok (.getfield 68, 3) := dk_180 0 68 (dk_at dksX1_setting_0 11 rfl rfl)
theorem dX1_setting_14 : decode cX1_setting 14 = .ok (.iload_n 1, 1) := dk_27 (dk_at dksX1_setting_0 14 rfl rfl)
theorem dX1_setting_15 : decode cX1_setting 15 = .ok (.iaload, 1) := dk_46 (dk_at dksX1_setting_0 15 rfl rfl)
theorem dX1_setting_16 : decode cX1_setting 16 = .ok (.ireturn, 1) := dk_172 (dk_at dksX1_setting_0 16 rfl rfl)
abbrev cX1_way : ByteArray := prog_1_method_33_code
def yX1_way : MethodName := ⟨RX1, "way", "(I)I"⟩
def dkwX1_way_0 : List UInt8 := [27, 184, 0, 75, 184, 0, 79, 42, 180, 0, 10, 27, 182, 0, 133, 172]
abbrev dktX1_way_0 : List UInt8 := dkwX1_way_0 ++ []
theorem dksX1_way_0 : cX1_way.data.toList.drop 0 = dktX1_way_0 := by decide +kernel
theorem dX1_way_0 : decode cX1_way 0 = .ok (.iload_n 1, 1) := dk_27 (dk_at dksX1_way_0 0 rfl rfl)
theorem dX1_way_1 : decode cX1_way 1 = .ok (.invokestatic 75, 3) := dk_184 0 75 (dk_at dksX1_way_0 1 rfl rfl)
theorem dX1_way_4 : decode cX1_way 4 = .ok (.invokestatic 79, 3) := dk_184 0 79 (dk_at dksX1_way_0 4 rfl rfl)
theorem dX1_way_7 : decode cX1_way 7 = .ok (.aload_n 0, 1) := dk_42 (dk_at dksX1_way_0 7 rfl rfl)
theorem dX1_way_8 : decode cX1_way 8 = .ok (.getfield 10, 3) := dk_180 0 10 (dk_at dksX1_way_0 8 rfl rfl)
theorem dX1_way_11 : decode cX1_way 11 = .ok (.iload_n 1, 1) := dk_27 (dk_at dksX1_way_0 11 rfl rfl)
theorem dX1_way_12 : decode cX1_way 12 = .ok (.invokevirtual 133, 3) := dk_182 0 133 (dk_at dksX1_way_0 12 rfl rfl)
theorem dX1_way_15 : decode cX1_way 15 = .ok (.ireturn, 1) := dk_172 (dk_at dksX1_way_0 15 rfl rfl)
abbrev cX1_ifPut : ByteArray := prog_1_method_35_code
def yX1_ifPut : MethodName := ⟨RX1, "ifPut", "(II)I"⟩
def dkwX1_ifPut_0 : List UInt8 := [27, 184, 0, 75, 184, 0, 79, 28, 184, 0, 83, 184, 0, 86, 42, 27, 28, 182, 0, 231, 172]
abbrev dktX1_ifPut_0 : List UInt8 := dkwX1_ifPut_0 ++ []
theorem dksX1_ifPut_0 : cX1_ifPut.data.toList.drop 0 = dktX1_ifPut_0 := by decide +kernel
theorem dX1_ifPut_0 : decode cX1_ifPut 0 = .ok (.iload_n 1, 1) := dk_27 (dk_at dksX1_ifPut_0 0 rfl rfl)
theorem dX1_ifPut_1 : decode cX1_ifPut 1 = .ok (.invokestatic 75, 3) := dk_184 0 75 (dk_at dksX1_ifPut_0 1 rfl rfl)
theorem dX1_ifPut_4 : decode cX1_ifPut 4 = .ok (.invokestatic 79, 3) := dk_184 0 79 (dk_at dksX1_ifPut_0 4 rfl rfl)
theorem dX1_ifPut_7 : decode cX1_ifPut 7 = .ok (.iload_n 2, 1) := dk_28 (dk_at dksX1_ifPut_0 7 rfl rfl)
theorem dX1_ifPut_8 : decode cX1_ifPut 8 = .ok (.invokestatic 83, 3) := dk_184 0 83 (dk_at dksX1_ifPut_0 8 rfl rfl)
theorem dX1_ifPut_11 : decode cX1_ifPut 11 = .ok (.invokestatic 86, 3) := dk_184 0 86 (dk_at dksX1_ifPut_0 11 rfl rfl)
theorem dX1_ifPut_14 : decode cX1_ifPut 14 = .ok (.aload_n 0, 1) := dk_42 (dk_at dksX1_ifPut_0 14 rfl rfl)
theorem dX1_ifPut_15 : decode cX1_ifPut 15 = .ok (.iload_n 1, 1) := dk_27 (dk_at dksX1_ifPut_0 15 rfl rfl)
theorem dX1_ifPut_16 : decode cX1_ifPut 16 = .ok (.iload_n 2, 1) := dk_28 (dk_at dksX1_ifPut_0 16 rfl rfl)
theorem dX1_ifPut_17 : decode cX1_ifPut 17 = .ok (.invokevirtual 231, 3) := dk_182 0 231 (dk_at dksX1_ifPut_0 17 rfl rfl)
theorem dX1_ifPut_20 : decode cX1_ifPut 20 = .ok (.ireturn, 1) := dk_172 (dk_at dksX1_ifPut_0 20 rfl rfl)
abbrev cX1_bestDrawer : ByteArray := prog_1_method_37_code
def yX1_bestDrawer : MethodName := ⟨RX1, "bestDrawer", "(I)I"⟩
def dkwX1_bestDrawer_0 : List UInt8 := [27, 184, 0, 83, 184, 0, 86, 42, 27, 182, 0, 234, 172]
abbrev dktX1_bestDrawer_0 : List UInt8 := dkwX1_bestDrawer_0 ++ []
theorem dksX1_bestDrawer_0 : cX1_bestDrawer.data.toList.drop 0 = dktX1_bestDrawer_0 := by decide +kernel
theorem dX1_bestDrawer_0 : decode cX1_bestDrawer 0 = .ok (.iload_n 1, 1) := dk_27 (dk_at dksX1_bestDrawer_0 0 rfl rfl)
theorem dX1_bestDrawer_1 : decode cX1_bestDrawer 1 = .ok (.invokestatic 83, 3) := dk_184 0 83 (dk_at dksX1_bestDrawer_0 1 rfl rfl)
theorem dX1_bestDrawer_4 : decode cX1_bestDrawer 4 = .ok (.invokestatic 86, 3) := dk_184 0 86 (dk_at dksX1_bestDrawer_0 4 rfl rfl)
theorem dX1_bestDrawer_7 : decode cX1_bestDrawer 7 = .ok (.aload_n 0, 1) := dk_42 (dk_at dksX1_bestDrawer_0 7 rfl rfl)
theorem dX1_bestDrawer_8 : decode cX1_bestDrawer 8 = .ok (.iload_n 1, 1) := dk_27 (dk_at dksX1_bestDrawer_0 8 rfl rfl)
theorem dX1_bestDrawer_9 : decode cX1_bestDrawer 9 = .ok (.invokevirtual 234, 3) := dk_182 0 234 (dk_at dksX1_bestDrawer_0 9 rfl rfl)
theorem dX1_bestDrawer_12 : decode cX1_bestDrawer 12 = .ok (.ireturn, 1) := dk_172 (dk_at dksX1_bestDrawer_0 12 rfl rfl)
abbrev cX1_ifPicked : ByteArray := prog_1_method_39_code
def yX1_ifPicked : MethodName := ⟨RX1, "ifPicked", "(II)I"⟩
def dkwX1_ifPicked_2 : List UInt8 := [27, 28, 182, 0, 237, 167, 0, 4, 2, 172]
abbrev dktX1_ifPicked_2 : List UInt8 := dkwX1_ifPicked_2 ++ []
def dkwX1_ifPicked_1 : List UInt8 := [184, 0, 86, 187, 0, 167, 89, 42, 183, 0, 169, 78, 45, 182, 0, 172, 153, 0, 16, 42, 45, 180, 0, 178]
abbrev dktX1_ifPicked_1 : List UInt8 := dkwX1_ifPicked_1 ++ dktX1_ifPicked_2
def dkwX1_ifPicked_0 : List UInt8 := [27, 3, 5, 184, 0, 60, 153, 0, 16, 28, 3, 6, 184, 0, 60, 153, 0, 7, 4, 167, 0, 4, 3]
abbrev dktX1_ifPicked_0 : List UInt8 := dkwX1_ifPicked_0 ++ dktX1_ifPicked_1
theorem dksX1_ifPicked_0 : cX1_ifPicked.data.toList.drop 0 = dktX1_ifPicked_0 := by decide +kernel
theorem dksX1_ifPicked_1 : cX1_ifPicked.data.toList.drop 23 = dktX1_ifPicked_1 := dk_seg dksX1_ifPicked_0 23 rfl rfl
theorem dksX1_ifPicked_2 : cX1_ifPicked.data.toList.drop 47 = dktX1_ifPicked_2 := dk_seg dksX1_ifPicked_1 24 rfl rfl
theorem dX1_ifPicked_0 : decode cX1_ifPicked 0 = .ok (.iload_n 1, 1) := dk_27 (dk_at dksX1_ifPicked_0 0 rfl rfl)
theorem dX1_ifPicked_1 : decode cX1_ifPicked 1 = .ok (.iconst 0, 1) := dk_3 (dk_at dksX1_ifPicked_0 1 rfl rfl)
theorem dX1_ifPicked_2 : decode cX1_ifPicked 2 = .ok (.iconst 2, 1) := dk_5 (dk_at dksX1_ifPicked_0 2 rfl rfl)
theorem dX1_ifPicked_3 : decode cX1_ifPicked 3 = .ok (.invokestatic 60, 3) := dk_184 0 60 (dk_at dksX1_ifPicked_0 3 rfl rfl)
theorem dX1_ifPicked_6 : decode cX1_ifPicked 6 = .ok (.ifCond .eq 16, 3) := dk_153 0 16 (dk_at dksX1_ifPicked_0 6 rfl rfl)
theorem dX1_ifPicked_9 : decode cX1_ifPicked 9 = .ok (.iload_n 2, 1) := dk_28 (dk_at dksX1_ifPicked_0 9 rfl rfl)
theorem dX1_ifPicked_10 : decode cX1_ifPicked 10 = .ok (.iconst 0, 1) := dk_3 (dk_at dksX1_ifPicked_0 10 rfl rfl)
theorem dX1_ifPicked_11 : decode cX1_ifPicked 11 = .ok (.iconst 3, 1) := dk_6 (dk_at dksX1_ifPicked_0 11 rfl rfl)
theorem dX1_ifPicked_12 : decode cX1_ifPicked 12 = .ok (.invokestatic 60, 3) := dk_184 0 60 (dk_at dksX1_ifPicked_0 12 rfl rfl)
theorem dX1_ifPicked_15 : decode cX1_ifPicked 15 = .ok (.ifCond .eq 7, 3) := dk_153 0 7 (dk_at dksX1_ifPicked_0 15 rfl rfl)
theorem dX1_ifPicked_18 : decode cX1_ifPicked 18 = .ok (.iconst 1, 1) := dk_4 (dk_at dksX1_ifPicked_0 18 rfl rfl)
theorem dX1_ifPicked_19 : decode cX1_ifPicked 19 = .ok (.goto 4, 3) := dk_167 0 4 (dk_at dksX1_ifPicked_0 19 rfl rfl)
theorem dX1_ifPicked_22 : decode cX1_ifPicked 22 = .ok (.iconst 0, 1) := dk_3 (dk_at dksX1_ifPicked_0 22 rfl rfl)
theorem dX1_ifPicked_23 : decode cX1_ifPicked 23 = .ok (.invokestatic 86, 3) := dk_184 0 86 (dk_at dksX1_ifPicked_1 0 rfl rfl)
theorem dX1_ifPicked_26 : decode cX1_ifPicked 26 = .ok (.new 167, 3) := dk_187 0 167 (dk_at dksX1_ifPicked_1 3 rfl rfl)
theorem dX1_ifPicked_29 : decode cX1_ifPicked 29 = .ok (.dup, 1) := dk_89 (dk_at dksX1_ifPicked_1 6 rfl rfl)
theorem dX1_ifPicked_30 : decode cX1_ifPicked 30 = .ok (.aload_n 0, 1) := dk_42 (dk_at dksX1_ifPicked_1 7 rfl rfl)
theorem dX1_ifPicked_31 : decode cX1_ifPicked 31 = .ok (.invokespecial 169, 3) := dk_183 0 169 (dk_at dksX1_ifPicked_1 8 rfl rfl)
theorem dX1_ifPicked_34 : decode cX1_ifPicked 34 = .ok (.astore_n 3, 1) := dk_78 (dk_at dksX1_ifPicked_1 11 rfl rfl)
theorem dX1_ifPicked_35 : decode cX1_ifPicked 35 = .ok (.aload_n 3, 1) := dk_45 (dk_at dksX1_ifPicked_1 12 rfl rfl)
theorem dX1_ifPicked_36 : decode cX1_ifPicked 36 = .ok (.invokevirtual 172, 3) := dk_182 0 172 (dk_at dksX1_ifPicked_1 13 rfl rfl)
theorem dX1_ifPicked_39 : decode cX1_ifPicked 39 = .ok (.ifCond .eq 16, 3) := dk_153 0 16 (dk_at dksX1_ifPicked_1 16 rfl rfl)
theorem dX1_ifPicked_42 : decode cX1_ifPicked 42 = .ok (.aload_n 0, 1) := dk_42 (dk_at dksX1_ifPicked_1 19 rfl rfl)
theorem dX1_ifPicked_43 : decode cX1_ifPicked 43 = .ok (.aload_n 3, 1) := dk_45 (dk_at dksX1_ifPicked_1 20 rfl rfl)
theorem dX1_ifPicked_44 : decode cX1_ifPicked 44 = .ok (.getfield 178, 3) := dk_180 0 178 (dk_at dksX1_ifPicked_1 21 rfl rfl)
theorem dX1_ifPicked_47 : decode cX1_ifPicked 47 = .ok (.iload_n 1, 1) := dk_27 (dk_at dksX1_ifPicked_2 0 rfl rfl)
theorem dX1_ifPicked_48 : decode cX1_ifPicked 48 = .ok (.iload_n 2, 1) := dk_28 (dk_at dksX1_ifPicked_2 1 rfl rfl)
theorem dX1_ifPicked_49 : decode cX1_ifPicked 49 = .ok (.invokevirtual 237, 3) := dk_182 0 237 (dk_at dksX1_ifPicked_2 2 rfl rfl)
theorem dX1_ifPicked_52 : decode cX1_ifPicked 52 = .ok (.goto 4, 3) := dk_167 0 4 (dk_at dksX1_ifPicked_2 5 rfl rfl)
theorem dX1_ifPicked_55 : decode cX1_ifPicked 55 = .ok (.iconst (-1), 1) := dk_2 (dk_at dksX1_ifPicked_2 8 rfl rfl)
theorem dX1_ifPicked_56 : decode cX1_ifPicked 56 = .ok (.ireturn, 1) := dk_172 (dk_at dksX1_ifPicked_2 9 rfl rfl)
theorem q72 : (Jvm.Cond.initialized "DrawerRing") ∈ lw_all := lw_g (lw_at lw_m1 1 rfl) rfl
theorem q113 : (Jvm.Cond.instantiable "DrawerRing" (5 : Nat)) ∈ lw_all := lw_g (lw_at lw_m1 42 rfl) rfl
theorem q115 : (Jvm.Cond.instanceMethod ({ cls := "DrawerRing", name := "<init>", desc := "()V" } : Jvm.MethodName)) ∈ lw_all := lw_g (lw_at lw_m1 44 rfl) rfl
theorem q116 : (Jvm.Cond.code ({ cls := "DrawerRing", name := "<init>", desc := "()V" } : Jvm.MethodName) prog_1_method_2_code (1 : Nat) (Option.none : Option Jvm.ClassFile.FieldType)) ∈ lw_all := lw_g (lw_at lw_m1 45 rfl) rfl
theorem q117 : (Jvm.Cond.methodLink "DrawerRing" (1 : Nat) ({ cls := "java/lang/Object", name := "<init>", desc := "()V" } : Jvm.MethodName)) ∈ lw_all := lw_g (lw_at lw_m1 46 rfl) rfl
theorem q120 : (Jvm.Cond.classLink "DrawerRing" (7 : Nat) "DrawerRing$Ring") ∈ lw_all := lw_g (lw_at lw_m1 49 rfl) rfl
theorem q122 : (Jvm.Cond.methodLinkNest "DrawerRing" (9 : Nat) ({ cls := "DrawerRing$Ring", name := "<init>", desc := "()V" } : Jvm.MethodName) "DrawerRing") ∈ lw_tbl := lw_at lw_m1 51 rfl
theorem q185 : (Jvm.Cond.fieldLinkNest "DrawerRing" (89 : Nat) "DrawerRing$Ring" "items" "Ljava/util/ArrayList;" "DrawerRing") ∈ lw_tbl := lw_at lw_m1 114 rfl
theorem q189 : (Jvm.Cond.fieldLinkNest "DrawerRing" (64 : Nat) "DrawerRing$Ring" "loads" "[I" "DrawerRing") ∈ lw_tbl := lw_at lw_m1 118 rfl
theorem q192 : (Jvm.Cond.fieldLinkNest "DrawerRing" (113 : Nat) "DrawerRing$Ring" "areJammed" "[Z" "DrawerRing") ∈ lw_tbl := lw_at lw_m1 121 rfl
theorem q194 : (Jvm.Cond.fieldLinkNest "DrawerRing" (68 : Nat) "DrawerRing$Ring" "settings" "[I" "DrawerRing") ∈ lw_tbl := lw_at lw_m1 123 rfl
theorem q197 : (Jvm.Cond.fieldLinkNest "DrawerRing" (196 : Nat) "DrawerRing$Ring" "window" "I" "DrawerRing") ∈ lw_tbl := lw_at lw_m1 126 rfl
theorem q199 : (Jvm.Cond.fieldLinkNest "DrawerRing" (92 : Nat) "DrawerRing$Ring" "numbers" "I" "DrawerRing") ∈ lw_tbl := lw_at lw_m1 128 rfl
theorem q202 : (Jvm.Cond.fieldLinkNest "DrawerRing" (216 : Nat) "DrawerRing$Ring" "down" "I" "DrawerRing") ∈ lw_tbl := lw_at lw_m1 131 rfl
theorem q204 : (Jvm.Cond.fieldLinkNest "DrawerRing" (219 : Nat) "DrawerRing$Ring" "longer" "I" "DrawerRing") ∈ lw_tbl := lw_at lw_m1 133 rfl
theorem q206 : (Jvm.Cond.fieldLinkNest "DrawerRing" (222 : Nat) "DrawerRing$Ring" "picked" "I" "DrawerRing") ∈ lw_tbl := lw_at lw_m1 135 rfl
theorem q232 : (Jvm.Cond.classLink "DrawerRing" (19 : Nat) "java/util/ArrayList") ∈ lw_all := lw_g (lw_at lw_m1 161 rfl) rfl
theorem q233 : (Jvm.Cond.methodLink "DrawerRing" (21 : Nat) ({ cls := "java/util/ArrayList", name := "<init>", desc := "()V" } : Jvm.MethodName)) ∈ lw_all := lw_g (lw_at lw_m1 162 rfl) rfl
theorem q234 : (Jvm.Cond.classLink "DrawerRing" (26 : Nat) "java/lang/StringBuilder") ∈ lw_all := lw_g (lw_at lw_m1 163 rfl) rfl
theorem q236 : (Jvm.Cond.methodLink "DrawerRing" (28 : Nat) ({ cls := "java/lang/StringBuilder", name := "<init>", desc := "(I)V" } : Jvm.MethodName)) ∈ lw_all := lw_g (lw_at lw_m1 165 rfl) rfl
theorem q267 : (Jvm.Cond.fieldLink "DrawerRing" (10 : Nat) "DrawerRing" "now" "LDrawerRing$Ring;") ∈ lw_all := lw_g (lw_at lw_m1 196 rfl) rfl
theorem q268 : (Jvm.Cond.fieldLink "DrawerRing" (16 : Nat) "DrawerRing" "tried" "LDrawerRing$Ring;") ∈ lw_all := lw_g (lw_at lw_m1 197 rfl) rfl
theorem q269 : (Jvm.Cond.fieldLink "DrawerRing" (22 : Nat) "DrawerRing" "saved" "Ljava/util/ArrayList;") ∈ lw_all := lw_g (lw_at lw_m1 198 rfl) rfl
theorem q271 : (Jvm.Cond.fieldLink "DrawerRing" (31 : Nat) "DrawerRing" "text" "Ljava/lang/StringBuilder;") ∈ lw_all := lw_g (lw_at lw_m1 200 rfl) rfl
theorem q272 : (Jvm.Cond.fieldLink "DrawerRing" (250 : Nat) "DrawerRing" "hash" "J") ∈ lw_all := lw_g (lw_at lw_m1 201 rfl) rfl
theorem q273 : (Jvm.Cond.laysFinal "DrawerRing" "DrawerRing" "now" "LDrawerRing$Ring;") ∈ lw_all := lw_g (lw_at lw_m1 202 rfl) rfl
theorem q274 : (Jvm.Cond.soleField "DrawerRing" "now") ∈ lw_all := lw_g (lw_at lw_m1 203 rfl) rfl
theorem q275 : (Jvm.Cond.laysFinal "DrawerRing" "DrawerRing" "tried" "LDrawerRing$Ring;") ∈ lw_all := lw_g (lw_at lw_m1 204 rfl) rfl
theorem q276 : (Jvm.Cond.soleField "DrawerRing" "tried") ∈ lw_all := lw_g (lw_at lw_m1 205 rfl) rfl
theorem q277 : (Jvm.Cond.laysFinal "DrawerRing" "DrawerRing" "saved" "Ljava/util/ArrayList;") ∈ lw_all := lw_g (lw_at lw_m1 206 rfl) rfl
theorem q278 : (Jvm.Cond.soleField "DrawerRing" "saved") ∈ lw_all := lw_g (lw_at lw_m1 207 rfl) rfl
theorem q279 : (Jvm.Cond.laysFinal "DrawerRing" "DrawerRing" "text" "Ljava/lang/StringBuilder;") ∈ lw_all := lw_g (lw_at lw_m1 208 rfl) rfl
theorem q280 : (Jvm.Cond.soleField "DrawerRing" "text") ∈ lw_all := lw_g (lw_at lw_m1 209 rfl) rfl
theorem q281 : (Jvm.Cond.lays "DrawerRing" "DrawerRing" "hash" "J") ∈ lw_all := lw_g (lw_at lw_m1 210 rfl) rfl
theorem q282 : (Jvm.Cond.soleField "DrawerRing" "hash") ∈ lw_all := lw_g (lw_at lw_m1 211 rfl) rfl
theorem q283 : (Jvm.Cond.superclass "DrawerRing" "java/lang/Object") ∈ lw_all := lw_g (lw_at lw_m1 212 rfl) rfl
theorem q285 : (Jvm.Cond.instanceMethod ({ cls := "DrawerRing", name := "clearBuffer", desc := "()I" } : Jvm.MethodName)) ∈ lw_all := lw_g (lw_at lw_m1 214 rfl) rfl
theorem q286 : (Jvm.Cond.selects "DrawerRing" ({ cls := "DrawerRing", name := "clearBuffer", desc := "()I" } : Jvm.MethodName) ({ cls := "DrawerRing", name := "clearBuffer", desc := "()I" } : Jvm.MethodName)) ∈ lw_all := lw_g (lw_at lw_m1 215 rfl) rfl
theorem q287 : (Jvm.Cond.code ({ cls := "DrawerRing", name := "clearBuffer", desc := "()I" } : Jvm.MethodName) prog_1_method_19_code (2 : Nat) (Option.some Jvm.ClassFile.FieldType.int)) ∈ lw_all := lw_g (lw_at lw_m1 216 rfl) rfl
theorem q288 : (Jvm.Cond.methodLink "DrawerRing" (157 : Nat) ({ cls := "java/lang/StringBuilder", name := "length", desc := "()I" } : Jvm.MethodName)) ∈ lw_all := lw_g (lw_at lw_m1 217 rfl) rfl
theorem q295 : (Jvm.Cond.methodLink "DrawerRing" (164 : Nat) ({ cls := "java/lang/StringBuilder", name := "setLength", desc := "(I)V" } : Jvm.MethodName)) ∈ lw_all := lw_g (lw_at lw_m1 224 rfl) rfl
theorem q637 : (Jvm.Cond.instanceMethod ({ cls := "DrawerRing", name := "firstError", desc := "()I" } : Jvm.MethodName)) ∈ lw_all := lw_g (lw_at lw_m3 86 rfl) rfl
theorem q638 : (Jvm.Cond.selects "DrawerRing" ({ cls := "DrawerRing", name := "firstError", desc := "()I" } : Jvm.MethodName) ({ cls := "DrawerRing", name := "firstError", desc := "()I" } : Jvm.MethodName)) ∈ lw_all := lw_g (lw_at lw_m3 87 rfl) rfl
theorem q639 : (Jvm.Cond.code ({ cls := "DrawerRing", name := "firstError", desc := "()I" } : Jvm.MethodName) prog_1_method_20_code (2 : Nat) (Option.some Jvm.ClassFile.FieldType.int)) ∈ lw_all := lw_g (lw_at lw_m3 88 rfl) rfl
theorem q640 : (Jvm.Cond.classLink "DrawerRing" (167 : Nat) "DrawerRing$Reader") ∈ lw_all := lw_g (lw_at lw_m3 89 rfl) rfl
theorem q642 : (Jvm.Cond.methodLinkNest "DrawerRing" (169 : Nat) ({ cls := "DrawerRing$Reader", name := "<init>", desc := "(LDrawerRing;)V" } : Jvm.MethodName) "DrawerRing") ∈ lw_tbl := lw_at lw_m3 91 rfl
theorem q668 : (Jvm.Cond.fieldLinkNest "DrawerRing" (178 : Nat) "DrawerRing$Reader" "batch" "LDrawerRing$Batch;" "DrawerRing") ∈ lw_tbl := lw_at lw_m3 117 rfl
theorem q670 : (Jvm.Cond.fieldLinkNest "DrawerRing" (175 : Nat) "DrawerRing$Reader" "place" "I" "DrawerRing") ∈ lw_tbl := lw_at lw_m3 119 rfl
theorem q679 : (Jvm.Cond.methodLink "DrawerRing" (172 : Nat) ({ cls := "DrawerRing$Reader", name := "isBatch", desc := "()Z" } : Jvm.MethodName)) ∈ lw_all := lw_g (lw_at lw_m3 128 rfl) rfl
theorem q708 : (Jvm.Cond.static ({ cls := "DrawerRing", name := "in", desc := "(III)Z" } : Jvm.MethodName)) ∈ lw_all := lw_g (lw_at lw_m3 157 rfl) rfl
theorem q709 : (Jvm.Cond.code ({ cls := "DrawerRing", name := "in", desc := "(III)Z" } : Jvm.MethodName) prog_1_method_1_code (3 : Nat) (Option.some Jvm.ClassFile.FieldType.boolean)) ∈ lw_all := lw_g (lw_at lw_m3 158 rfl) rfl
theorem q720 : (Jvm.Cond.instanceMethod ({ cls := "DrawerRing", name := "refusal", desc := "(I)I" } : Jvm.MethodName)) ∈ lw_all := lw_g (lw_at lw_m3 169 rfl) rfl
theorem q721 : (Jvm.Cond.selects "DrawerRing" ({ cls := "DrawerRing", name := "refusal", desc := "(I)I" } : Jvm.MethodName) ({ cls := "DrawerRing", name := "refusal", desc := "(I)I" } : Jvm.MethodName)) ∈ lw_all := lw_g (lw_at lw_m3 170 rfl) rfl
theorem q722 : (Jvm.Cond.code ({ cls := "DrawerRing", name := "refusal", desc := "(I)I" } : Jvm.MethodName) prog_1_method_32_code (2 : Nat) (Option.some Jvm.ClassFile.FieldType.int)) ∈ lw_all := lw_g (lw_at lw_m3 171 rfl) rfl
theorem q723 : (Jvm.Cond.methodLink "DrawerRing" (125 : Nat) ({ cls := "DrawerRing$Ring", name := "refusal", desc := "(I)I" } : Jvm.MethodName)) ∈ lw_all := lw_g (lw_at lw_m3 172 rfl) rfl
theorem q738 : (Jvm.Cond.fieldLinkNest "DrawerRing" (262 : Nat) "DrawerRing$Tag" "number" "I" "DrawerRing") ∈ lw_tbl := lw_at lw_m3 187 rfl
theorem q757 : (Jvm.Cond.selects "DrawerRing" ({ cls := "java/lang/Object", name := "hashCode", desc := "()I" } : Jvm.MethodName) ({ cls := "java/lang/Object", name := "hashCode", desc := "()I" } : Jvm.MethodName)) ∈ lw_all := lw_g (lw_at lw_m3 206 rfl) rfl
theorem q839 : (Jvm.Cond.selects "DrawerRing" ({ cls := "java/lang/Object", name := "equals", desc := "(Ljava/lang/Object;)Z" } : Jvm.MethodName) ({ cls := "java/lang/Object", name := "equals", desc := "(Ljava/lang/Object;)Z" } : Jvm.MethodName)) ∈ lw_all := lw_g (lw_at lw_m4 48 rfl) rfl
theorem q886 : (Jvm.Cond.selects "DrawerRing" ({ cls := "java/lang/Object", name := "getClass", desc := "()Ljava/lang/Class;" } : Jvm.MethodName) ({ cls := "java/lang/Object", name := "getClass", desc := "()Ljava/lang/Class;" } : Jvm.MethodName)) ∈ lw_all := lw_g (lw_at lw_m4 95 rfl) rfl
theorem q1114 : (Jvm.Cond.instanceMethod ({ cls := "DrawerRing", name := "evenness", desc := "()D" } : Jvm.MethodName)) ∈ lw_all := lw_g (lw_at lw_m5 83 rfl) rfl
theorem q1115 : (Jvm.Cond.selects "DrawerRing" ({ cls := "DrawerRing", name := "evenness", desc := "()D" } : Jvm.MethodName) ({ cls := "DrawerRing", name := "evenness", desc := "()D" } : Jvm.MethodName)) ∈ lw_all := lw_g (lw_at lw_m5 84 rfl) rfl
theorem q1116 : (Jvm.Cond.code ({ cls := "DrawerRing", name := "evenness", desc := "()D" } : Jvm.MethodName) prog_1_method_41_code (1 : Nat) (Option.some Jvm.ClassFile.FieldType.double)) ∈ lw_all := lw_g (lw_at lw_m5 85 rfl) rfl
theorem q1117 : (Jvm.Cond.methodLink "DrawerRing" (244 : Nat) ({ cls := "DrawerRing", name := "evenTold", desc := "()D" } : Jvm.MethodName)) ∈ lw_all := lw_g (lw_at lw_m5 86 rfl) rfl
theorem q1118 : (Jvm.Cond.privateMethod ({ cls := "DrawerRing", name := "evenTold", desc := "()D" } : Jvm.MethodName)) ∈ lw_tbl := lw_at lw_m5 87 rfl
theorem q1119 : (Jvm.Cond.instanceMethod ({ cls := "DrawerRing", name := "evenTold", desc := "()D" } : Jvm.MethodName)) ∈ lw_all := lw_g (lw_at lw_m5 88 rfl) rfl
theorem q1120 : (Jvm.Cond.code ({ cls := "DrawerRing", name := "evenTold", desc := "()D" } : Jvm.MethodName) prog_1_method_40_code (6 : Nat) (Option.some Jvm.ClassFile.FieldType.double)) ∈ lw_all := lw_g (lw_at lw_m5 89 rfl) rfl
theorem q1121 : (Jvm.Cond.methodLink "DrawerRing" (241 : Nat) ({ cls := "java/lang/Math", name := "min", desc := "(II)I" } : Jvm.MethodName)) ∈ lw_all := lw_g (lw_at lw_m5 90 rfl) rfl
theorem q1122 : (Jvm.Cond.methodLink "DrawerRing" (154 : Nat) ({ cls := "DrawerRing", name := "greatestLoad", desc := "()I" } : Jvm.MethodName)) ∈ lw_all := lw_g (lw_at lw_m5 91 rfl) rfl
theorem q1123 : (Jvm.Cond.privateMethod ({ cls := "DrawerRing", name := "greatestLoad", desc := "()I" } : Jvm.MethodName)) ∈ lw_tbl := lw_at lw_m5 92 rfl
theorem q1124 : (Jvm.Cond.instanceMethod ({ cls := "DrawerRing", name := "greatestLoad", desc := "()I" } : Jvm.MethodName)) ∈ lw_all := lw_g (lw_at lw_m5 93 rfl) rfl
theorem q1125 : (Jvm.Cond.code ({ cls := "DrawerRing", name := "greatestLoad", desc := "()I" } : Jvm.MethodName) prog_1_method_16_code (6 : Nat) (Option.some Jvm.ClassFile.FieldType.int)) ∈ lw_all := lw_g (lw_at lw_m5 94 rfl) rfl
theorem q1126 : (Jvm.Cond.methodLink "DrawerRing" (139 : Nat) ({ cls := "java/lang/Math", name := "max", desc := "(II)I" } : Jvm.MethodName)) ∈ lw_all := lw_g (lw_at lw_m5 95 rfl) rfl
theorem q1128 : (Jvm.Cond.instanceMethod ({ cls := "DrawerRing", name := "digest", desc := "()J" } : Jvm.MethodName)) ∈ lw_all := lw_g (lw_at lw_m5 97 rfl) rfl
theorem q1129 : (Jvm.Cond.selects "DrawerRing" ({ cls := "DrawerRing", name := "digest", desc := "()J" } : Jvm.MethodName) ({ cls := "DrawerRing", name := "digest", desc := "()J" } : Jvm.MethodName)) ∈ lw_all := lw_g (lw_at lw_m5 98 rfl) rfl
theorem q1130 : (Jvm.Cond.code ({ cls := "DrawerRing", name := "digest", desc := "()J" } : Jvm.MethodName) prog_1_method_45_code (2 : Nat) (Option.some Jvm.ClassFile.FieldType.long)) ∈ lw_all := lw_g (lw_at lw_m5 99 rfl) rfl
theorem q1131 : (Jvm.Cond.constantLong "DrawerRing" (269 : Nat) (2963 : Int64)) ∈ lw_all := lw_g (lw_at lw_m5 100 rfl) rfl
theorem q1132 : (Jvm.Cond.methodLink "DrawerRing" (228 : Nat) ({ cls := "DrawerRing", name := "countTold", desc := "(I)I" } : Jvm.MethodName)) ∈ lw_all := lw_g (lw_at lw_m5 101 rfl) rfl
theorem q1133 : (Jvm.Cond.privateMethod ({ cls := "DrawerRing", name := "countTold", desc := "(I)I" } : Jvm.MethodName)) ∈ lw_tbl := lw_at lw_m5 102 rfl
theorem q1134 : (Jvm.Cond.instanceMethod ({ cls := "DrawerRing", name := "countTold", desc := "(I)I" } : Jvm.MethodName)) ∈ lw_all := lw_g (lw_at lw_m5 103 rfl) rfl
theorem q1135 : (Jvm.Cond.code ({ cls := "DrawerRing", name := "countTold", desc := "(I)I" } : Jvm.MethodName) prog_1_method_29_code (2 : Nat) (Option.some Jvm.ClassFile.FieldType.int)) ∈ lw_all := lw_g (lw_at lw_m5 104 rfl) rfl
theorem q1136 : (Jvm.Cond.methodLink "DrawerRing" (35 : Nat) ({ cls := "java/util/ArrayList", name := "size", desc := "()I" } : Jvm.MethodName)) ∈ lw_all := lw_g (lw_at lw_m5 105 rfl) rfl
theorem q1140 : (Jvm.Cond.methodLink "DrawerRing" (207 : Nat) ({ cls := "DrawerRing", name := "load", desc := "()I" } : Jvm.MethodName)) ∈ lw_all := lw_g (lw_at lw_m5 109 rfl) rfl
theorem q1141 : (Jvm.Cond.privateMethod ({ cls := "DrawerRing", name := "load", desc := "()I" } : Jvm.MethodName)) ∈ lw_tbl := lw_at lw_m5 110 rfl
theorem q1142 : (Jvm.Cond.instanceMethod ({ cls := "DrawerRing", name := "load", desc := "()I" } : Jvm.MethodName)) ∈ lw_all := lw_g (lw_at lw_m5 111 rfl) rfl
theorem q1143 : (Jvm.Cond.code ({ cls := "DrawerRing", name := "load", desc := "()I" } : Jvm.MethodName) prog_1_method_27_code (6 : Nat) (Option.some Jvm.ClassFile.FieldType.int)) ∈ lw_all := lw_g (lw_at lw_m5 112 rfl) rfl
theorem q1144 : (Jvm.Cond.methodLink "DrawerRing" (201 : Nat) ({ cls := "DrawerRing$Ring", name := "imbalance", desc := "(I)I" } : Jvm.MethodName)) ∈ lw_all := lw_g (lw_at lw_m5 113 rfl) rfl
theorem q1145 : (Jvm.Cond.methodLink "DrawerRing" (210 : Nat) ({ cls := "DrawerRing$Ring", name := "worst", desc := "()I" } : Jvm.MethodName)) ∈ lw_all := lw_g (lw_at lw_m5 114 rfl) rfl
theorem q1150 : (Jvm.Cond.methodLink "DrawerRing" (213 : Nat) ({ cls := "DrawerRing$Ring", name := "steps", desc := "()I" } : Jvm.MethodName)) ∈ lw_all := lw_g (lw_at lw_m5 119 rfl) rfl
theorem q1154 : (Jvm.Cond.methodLink "DrawerRing" (225 : Nat) ({ cls := "DrawerRing", name := "jammed", desc := "()I" } : Jvm.MethodName)) ∈ lw_all := lw_g (lw_at lw_m5 123 rfl) rfl
theorem q1155 : (Jvm.Cond.privateMethod ({ cls := "DrawerRing", name := "jammed", desc := "()I" } : Jvm.MethodName)) ∈ lw_tbl := lw_at lw_m5 124 rfl
theorem q1156 : (Jvm.Cond.instanceMethod ({ cls := "DrawerRing", name := "jammed", desc := "()I" } : Jvm.MethodName)) ∈ lw_all := lw_g (lw_at lw_m5 125 rfl) rfl
theorem q1157 : (Jvm.Cond.code ({ cls := "DrawerRing", name := "jammed", desc := "()I" } : Jvm.MethodName) prog_1_method_28_code (6 : Nat) (Option.some Jvm.ClassFile.FieldType.int)) ∈ lw_all := lw_g (lw_at lw_m5 126 rfl) rfl
theorem q1158 : (Jvm.Cond.methodLink "DrawerRing" (254 : Nat) ({ cls := "DrawerRing", name := "mix", desc := "(J)V" } : Jvm.MethodName)) ∈ lw_all := lw_g (lw_at lw_m5 127 rfl) rfl
theorem q1159 : (Jvm.Cond.privateMethod ({ cls := "DrawerRing", name := "mix", desc := "(J)V" } : Jvm.MethodName)) ∈ lw_tbl := lw_at lw_m5 128 rfl
theorem q1160 : (Jvm.Cond.instanceMethod ({ cls := "DrawerRing", name := "mix", desc := "(J)V" } : Jvm.MethodName)) ∈ lw_all := lw_g (lw_at lw_m5 129 rfl) rfl
theorem q1161 : (Jvm.Cond.code ({ cls := "DrawerRing", name := "mix", desc := "(J)V" } : Jvm.MethodName) prog_1_method_42_code (3 : Nat) (Option.none : Option Jvm.ClassFile.FieldType)) ∈ lw_all := lw_g (lw_at lw_m5 130 rfl) rfl
theorem q1162 : (Jvm.Cond.constantLong "DrawerRing" (248 : Nat) (31 : Int64)) ∈ lw_all := lw_g (lw_at lw_m5 131 rfl) rfl
theorem q1163 : (Jvm.Cond.methodLink "DrawerRing" (271 : Nat) ({ cls := "DrawerRing", name := "mixDrawers", desc := "()V" } : Jvm.MethodName)) ∈ lw_all := lw_g (lw_at lw_m5 132 rfl) rfl
theorem q1164 : (Jvm.Cond.privateMethod ({ cls := "DrawerRing", name := "mixDrawers", desc := "()V" } : Jvm.MethodName)) ∈ lw_tbl := lw_at lw_m5 133 rfl
theorem q1165 : (Jvm.Cond.instanceMethod ({ cls := "DrawerRing", name := "mixDrawers", desc := "()V" } : Jvm.MethodName)) ∈ lw_all := lw_g (lw_at lw_m5 134 rfl) rfl
theorem q1166 : (Jvm.Cond.code ({ cls := "DrawerRing", name := "mixDrawers", desc := "()V" } : Jvm.MethodName) prog_1_method_43_code (3 : Nat) (Option.none : Option Jvm.ClassFile.FieldType)) ∈ lw_all := lw_g (lw_at lw_m5 135 rfl) rfl
theorem q1167 : (Jvm.Cond.methodLink "DrawerRing" (204 : Nat) ({ cls := "DrawerRing", name := "drawerTold", desc := "(II)I" } : Jvm.MethodName)) ∈ lw_all := lw_g (lw_at lw_m5 136 rfl) rfl
theorem q1168 : (Jvm.Cond.privateMethod ({ cls := "DrawerRing", name := "drawerTold", desc := "(II)I" } : Jvm.MethodName)) ∈ lw_tbl := lw_at lw_m5 137 rfl
theorem q1169 : (Jvm.Cond.instanceMethod ({ cls := "DrawerRing", name := "drawerTold", desc := "(II)I" } : Jvm.MethodName)) ∈ lw_all := lw_g (lw_at lw_m5 138 rfl) rfl
theorem q1170 : (Jvm.Cond.code ({ cls := "DrawerRing", name := "drawerTold", desc := "(II)I" } : Jvm.MethodName) prog_1_method_24_code (3 : Nat) (Option.some Jvm.ClassFile.FieldType.int)) ∈ lw_all := lw_g (lw_at lw_m5 139 rfl) rfl
theorem q1171 : (Jvm.Cond.methodLink "DrawerRing" (193 : Nat) ({ cls := "DrawerRing", name := "itemsIn", desc := "(I)I" } : Jvm.MethodName)) ∈ lw_all := lw_g (lw_at lw_m5 140 rfl) rfl
theorem q1172 : (Jvm.Cond.privateMethod ({ cls := "DrawerRing", name := "itemsIn", desc := "(I)I" } : Jvm.MethodName)) ∈ lw_tbl := lw_at lw_m5 141 rfl
theorem q1173 : (Jvm.Cond.instanceMethod ({ cls := "DrawerRing", name := "itemsIn", desc := "(I)I" } : Jvm.MethodName)) ∈ lw_all := lw_g (lw_at lw_m5 142 rfl) rfl
theorem q1174 : (Jvm.Cond.code ({ cls := "DrawerRing", name := "itemsIn", desc := "(I)I" } : Jvm.MethodName) prog_1_method_23_code (4 : Nat) (Option.some Jvm.ClassFile.FieldType.int)) ∈ lw_all := lw_g (lw_at lw_m5 143 rfl) rfl
theorem q1175 : (Jvm.Cond.methodLink "DrawerRing" (182 : Nat) ({ cls := "java/util/ArrayList", name := "get", desc := "(I)Ljava/lang/Object;" } : Jvm.MethodName)) ∈ lw_all := lw_g (lw_at lw_m5 144 rfl) rfl
theorem q1187 : (Jvm.Cond.classLink "DrawerRing" (118 : Nat) "DrawerRing$Item") ∈ lw_all := lw_g (lw_at lw_m5 156 rfl) rfl
theorem q1188 : (Jvm.Cond.methodLink "DrawerRing" (199 : Nat) ({ cls := "DrawerRing$Ring", name := "place", desc := "(II)I" } : Jvm.MethodName)) ∈ lw_all := lw_g (lw_at lw_m5 157 rfl) rfl
theorem q1189 : (Jvm.Cond.methodLink "DrawerRing" (133 : Nat) ({ cls := "DrawerRing$Ring", name := "way", desc := "(I)I" } : Jvm.MethodName)) ∈ lw_all := lw_g (lw_at lw_m5 158 rfl) rfl
theorem q1190 : (Jvm.Cond.methodLink "DrawerRing" (231 : Nat) ({ cls := "DrawerRing", name := "putTold", desc := "(II)I" } : Jvm.MethodName)) ∈ lw_all := lw_g (lw_at lw_m5 159 rfl) rfl
theorem q1191 : (Jvm.Cond.privateMethod ({ cls := "DrawerRing", name := "putTold", desc := "(II)I" } : Jvm.MethodName)) ∈ lw_tbl := lw_at lw_m5 160 rfl
theorem q1192 : (Jvm.Cond.instanceMethod ({ cls := "DrawerRing", name := "putTold", desc := "(II)I" } : Jvm.MethodName)) ∈ lw_all := lw_g (lw_at lw_m5 161 rfl) rfl
theorem q1193 : (Jvm.Cond.code ({ cls := "DrawerRing", name := "putTold", desc := "(II)I" } : Jvm.MethodName) prog_1_method_34_code (4 : Nat) (Option.some Jvm.ClassFile.FieldType.int)) ∈ lw_all := lw_g (lw_at lw_m5 162 rfl) rfl
theorem q1194 : (Jvm.Cond.methodLink "DrawerRing" (234 : Nat) ({ cls := "DrawerRing", name := "drawerFor", desc := "(I)I" } : Jvm.MethodName)) ∈ lw_all := lw_g (lw_at lw_m5 163 rfl) rfl
theorem q1195 : (Jvm.Cond.privateMethod ({ cls := "DrawerRing", name := "drawerFor", desc := "(I)I" } : Jvm.MethodName)) ∈ lw_tbl := lw_at lw_m5 164 rfl
theorem q1196 : (Jvm.Cond.instanceMethod ({ cls := "DrawerRing", name := "drawerFor", desc := "(I)I" } : Jvm.MethodName)) ∈ lw_all := lw_g (lw_at lw_m5 165 rfl) rfl
theorem q1197 : (Jvm.Cond.code ({ cls := "DrawerRing", name := "drawerFor", desc := "(I)I" } : Jvm.MethodName) prog_1_method_36_code (7 : Nat) (Option.some Jvm.ClassFile.FieldType.int)) ∈ lw_all := lw_g (lw_at lw_m5 166 rfl) rfl
theorem q1198 : (Jvm.Cond.methodLink "DrawerRing" (274 : Nat) ({ cls := "DrawerRing", name := "mixBatch", desc := "()V" } : Jvm.MethodName)) ∈ lw_all := lw_g (lw_at lw_m5 167 rfl) rfl
theorem q1199 : (Jvm.Cond.privateMethod ({ cls := "DrawerRing", name := "mixBatch", desc := "()V" } : Jvm.MethodName)) ∈ lw_tbl := lw_at lw_m5 168 rfl
theorem q1200 : (Jvm.Cond.instanceMethod ({ cls := "DrawerRing", name := "mixBatch", desc := "()V" } : Jvm.MethodName)) ∈ lw_all := lw_g (lw_at lw_m5 169 rfl) rfl
theorem q1201 : (Jvm.Cond.code ({ cls := "DrawerRing", name := "mixBatch", desc := "()V" } : Jvm.MethodName) prog_1_method_44_code (4 : Nat) (Option.none : Option Jvm.ClassFile.FieldType)) ∈ lw_all := lw_g (lw_at lw_m5 170 rfl) rfl
theorem q1202 : (Jvm.Cond.methodLink "DrawerRing" (237 : Nat) ({ cls := "DrawerRing", name := "pickedTold", desc := "(LDrawerRing$Batch;II)I" } : Jvm.MethodName)) ∈ lw_all := lw_g (lw_at lw_m5 171 rfl) rfl
theorem q1203 : (Jvm.Cond.privateMethod ({ cls := "DrawerRing", name := "pickedTold", desc := "(LDrawerRing$Batch;II)I" } : Jvm.MethodName)) ∈ lw_tbl := lw_at lw_m5 172 rfl
theorem q1204 : (Jvm.Cond.instanceMethod ({ cls := "DrawerRing", name := "pickedTold", desc := "(LDrawerRing$Batch;II)I" } : Jvm.MethodName)) ∈ lw_all := lw_g (lw_at lw_m5 173 rfl) rfl
theorem q1205 : (Jvm.Cond.code ({ cls := "DrawerRing", name := "pickedTold", desc := "(LDrawerRing$Batch;II)I" } : Jvm.MethodName) prog_1_method_38_code (5 : Nat) (Option.some Jvm.ClassFile.FieldType.int)) ∈ lw_all := lw_g (lw_at lw_m5 174 rfl) rfl
theorem q1206 : (Jvm.Cond.methodLink "DrawerRing" (43 : Nat) ({ cls := "DrawerRing$Ring", name := "become", desc := "(LDrawerRing$Ring;)V" } : Jvm.MethodName)) ∈ lw_all := lw_g (lw_at lw_m5 175 rfl) rfl
theorem q1227 : (Jvm.Cond.fieldLinkNest "DrawerRing" (258 : Nat) "DrawerRing$Item" "tag" "LDrawerRing$Tag;" "DrawerRing") ∈ lw_tbl := lw_at lw_m5 196 rfl
theorem q1231 : (Jvm.Cond.fieldLinkNest "DrawerRing" (122 : Nat) "DrawerRing$Item" "weight" "I" "DrawerRing") ∈ lw_tbl := lw_at lw_m5 200 rfl
theorem q1235 : (Jvm.Cond.fieldLinkNest "DrawerRing" (117 : Nat) "DrawerRing$Item" "drawer" "I" "DrawerRing") ∈ lw_tbl := lw_at lw_m5 204 rfl
theorem q1421 : (Jvm.Cond.methodLink "DrawerRing" (185 : Nat) ({ cls := "DrawerRing$Batch", name := "pick", desc := "(LDrawerRing$Ring;LDrawerRing$Ring;I)I" } : Jvm.MethodName)) ∈ lw_all := lw_g (lw_at lw_m6 150 rfl) rfl
theorem q1501 : (Jvm.Cond.constantLong "DrawerRing" (267 : Nat) (-1 : Int64)) ∈ lw_all := lw_g (lw_at lw_m6 230 rfl) rfl
theorem q1502 : (Jvm.Cond.methodLink "DrawerRing" (277 : Nat) ({ cls := "java/lang/Double", name := "doubleToLongBits", desc := "(D)J" } : Jvm.MethodName)) ∈ lw_all := lw_g (lw_at lw_m6 231 rfl) rfl
theorem q1512 : (Jvm.Cond.methodLink "DrawerRing" (283 : Nat) ({ cls := "java/lang/StringBuilder", name := "charAt", desc := "(I)C" } : Jvm.MethodName)) ∈ lw_all := lw_g (lw_at lw_m7 1 rfl) rfl
theorem q1522 : (Jvm.Cond.instanceMethod ({ cls := "DrawerRing", name := "put", desc := "(II)I" } : Jvm.MethodName)) ∈ lw_all := lw_g (lw_at lw_m7 11 rfl) rfl
theorem q1523 : (Jvm.Cond.selects "DrawerRing" ({ cls := "DrawerRing", name := "put", desc := "(II)I" } : Jvm.MethodName) ({ cls := "DrawerRing", name := "put", desc := "(II)I" } : Jvm.MethodName)) ∈ lw_all := lw_g (lw_at lw_m7 12 rfl) rfl
theorem q1524 : (Jvm.Cond.code ({ cls := "DrawerRing", name := "put", desc := "(II)I" } : Jvm.MethodName) prog_1_method_10_code (3 : Nat) (Option.some Jvm.ClassFile.FieldType.int)) ∈ lw_all := lw_g (lw_at lw_m7 13 rfl) rfl
theorem q1525 : (Jvm.Cond.methodLink "DrawerRing" (75 : Nat) ({ cls := "DrawerRing", name := "isDrawer", desc := "(I)Z" } : Jvm.MethodName)) ∈ lw_all := lw_g (lw_at lw_m7 14 rfl) rfl
theorem q1526 : (Jvm.Cond.static ({ cls := "DrawerRing", name := "isDrawer", desc := "(I)Z" } : Jvm.MethodName)) ∈ lw_all := lw_g (lw_at lw_m7 15 rfl) rfl
theorem q1527 : (Jvm.Cond.code ({ cls := "DrawerRing", name := "isDrawer", desc := "(I)Z" } : Jvm.MethodName) prog_1_method_7_code (1 : Nat) (Option.some Jvm.ClassFile.FieldType.boolean)) ∈ lw_all := lw_g (lw_at lw_m7 16 rfl) rfl
theorem q1528 : (Jvm.Cond.methodLink "DrawerRing" (60 : Nat) ({ cls := "DrawerRing", name := "in", desc := "(III)Z" } : Jvm.MethodName)) ∈ lw_all := lw_g (lw_at lw_m7 17 rfl) rfl
theorem q1529 : (Jvm.Cond.methodLink "DrawerRing" (79 : Nat) ({ cls := "DrawerRing", name := "needIndex", desc := "(Z)V" } : Jvm.MethodName)) ∈ lw_all := lw_g (lw_at lw_m7 18 rfl) rfl
theorem q1530 : (Jvm.Cond.static ({ cls := "DrawerRing", name := "needIndex", desc := "(Z)V" } : Jvm.MethodName)) ∈ lw_all := lw_g (lw_at lw_m7 19 rfl) rfl
theorem q1531 : (Jvm.Cond.code ({ cls := "DrawerRing", name := "needIndex", desc := "(Z)V" } : Jvm.MethodName) prog_1_method_5_code (1 : Nat) (Option.none : Option Jvm.ClassFile.FieldType)) ∈ lw_all := lw_g (lw_at lw_m7 20 rfl) rfl
theorem q1532 : (Jvm.Cond.classLink "DrawerRing" (54 : Nat) "java/lang/IndexOutOfBoundsException") ∈ lw_all := lw_g (lw_at lw_m7 21 rfl) rfl
theorem q1541 : (Jvm.Cond.methodLink "DrawerRing" (56 : Nat) ({ cls := "java/lang/IndexOutOfBoundsException", name := "<init>", desc := "()V" } : Jvm.MethodName)) ∈ lw_all := lw_g (lw_at lw_m7 30 rfl) rfl
theorem q1553 : (Jvm.Cond.methodLink "DrawerRing" (83 : Nat) ({ cls := "DrawerRing", name := "isWeight", desc := "(I)Z" } : Jvm.MethodName)) ∈ lw_all := lw_g (lw_at lw_m7 42 rfl) rfl
theorem q1554 : (Jvm.Cond.static ({ cls := "DrawerRing", name := "isWeight", desc := "(I)Z" } : Jvm.MethodName)) ∈ lw_all := lw_g (lw_at lw_m7 43 rfl) rfl
theorem q1555 : (Jvm.Cond.code ({ cls := "DrawerRing", name := "isWeight", desc := "(I)Z" } : Jvm.MethodName) prog_1_method_8_code (1 : Nat) (Option.some Jvm.ClassFile.FieldType.boolean)) ∈ lw_all := lw_g (lw_at lw_m7 44 rfl) rfl
theorem q1556 : (Jvm.Cond.methodLink "DrawerRing" (86 : Nat) ({ cls := "DrawerRing", name := "need", desc := "(Z)V" } : Jvm.MethodName)) ∈ lw_all := lw_g (lw_at lw_m7 45 rfl) rfl
theorem q1557 : (Jvm.Cond.static ({ cls := "DrawerRing", name := "need", desc := "(Z)V" } : Jvm.MethodName)) ∈ lw_all := lw_g (lw_at lw_m7 46 rfl) rfl
theorem q1558 : (Jvm.Cond.code ({ cls := "DrawerRing", name := "need", desc := "(Z)V" } : Jvm.MethodName) prog_1_method_4_code (1 : Nat) (Option.none : Option Jvm.ClassFile.FieldType)) ∈ lw_all := lw_g (lw_at lw_m7 47 rfl) rfl
theorem q1559 : (Jvm.Cond.classLink "DrawerRing" (51 : Nat) "java/lang/IllegalArgumentException") ∈ lw_all := lw_g (lw_at lw_m7 48 rfl) rfl
theorem q1560 : (Jvm.Cond.methodLink "DrawerRing" (53 : Nat) ({ cls := "java/lang/IllegalArgumentException", name := "<init>", desc := "()V" } : Jvm.MethodName)) ∈ lw_all := lw_g (lw_at lw_m7 49 rfl) rfl
theorem q1564 : (Jvm.Cond.methodLink "DrawerRing" (96 : Nat) ({ cls := "DrawerRing", name := "mayPut", desc := "(III)Z" } : Jvm.MethodName)) ∈ lw_all := lw_g (lw_at lw_m7 53 rfl) rfl
theorem q1565 : (Jvm.Cond.privateMethod ({ cls := "DrawerRing", name := "mayPut", desc := "(III)Z" } : Jvm.MethodName)) ∈ lw_tbl := lw_at lw_m7 54 rfl
theorem q1566 : (Jvm.Cond.instanceMethod ({ cls := "DrawerRing", name := "mayPut", desc := "(III)Z" } : Jvm.MethodName)) ∈ lw_all := lw_g (lw_at lw_m7 55 rfl) rfl
theorem q1567 : (Jvm.Cond.code ({ cls := "DrawerRing", name := "mayPut", desc := "(III)Z" } : Jvm.MethodName) prog_1_method_9_code (5 : Nat) (Option.some Jvm.ClassFile.FieldType.boolean)) ∈ lw_all := lw_g (lw_at lw_m7 56 rfl) rfl
theorem q1568 : (Jvm.Cond.methodLink "DrawerRing" (71 : Nat) ({ cls := "DrawerRing$Ring", name := "isBalanced", desc := "()Z" } : Jvm.MethodName)) ∈ lw_all := lw_g (lw_at lw_m7 57 rfl) rfl
theorem q1572 : (Jvm.Cond.methodLink "DrawerRing" (99 : Nat) ({ cls := "DrawerRing", name := "needState", desc := "(Z)V" } : Jvm.MethodName)) ∈ lw_all := lw_g (lw_at lw_m7 61 rfl) rfl
theorem q1573 : (Jvm.Cond.static ({ cls := "DrawerRing", name := "needState", desc := "(Z)V" } : Jvm.MethodName)) ∈ lw_all := lw_g (lw_at lw_m7 62 rfl) rfl
theorem q1574 : (Jvm.Cond.code ({ cls := "DrawerRing", name := "needState", desc := "(Z)V" } : Jvm.MethodName) prog_1_method_6_code (1 : Nat) (Option.none : Option Jvm.ClassFile.FieldType)) ∈ lw_all := lw_g (lw_at lw_m7 63 rfl) rfl
theorem q1575 : (Jvm.Cond.classLink "DrawerRing" (57 : Nat) "java/lang/IllegalStateException") ∈ lw_all := lw_g (lw_at lw_m7 64 rfl) rfl
theorem q1584 : (Jvm.Cond.methodLink "DrawerRing" (59 : Nat) ({ cls := "java/lang/IllegalStateException", name := "<init>", desc := "()V" } : Jvm.MethodName)) ∈ lw_all := lw_g (lw_at lw_m7 73 rfl) rfl
theorem q1590 : (Jvm.Cond.methodLink "DrawerRing" (102 : Nat) ({ cls := "DrawerRing", name := "save", desc := "()V" } : Jvm.MethodName)) ∈ lw_all := lw_g (lw_at lw_m7 79 rfl) rfl
theorem q1591 : (Jvm.Cond.privateMethod ({ cls := "DrawerRing", name := "save", desc := "()V" } : Jvm.MethodName)) ∈ lw_tbl := lw_at lw_m7 80 rfl
theorem q1592 : (Jvm.Cond.instanceMethod ({ cls := "DrawerRing", name := "save", desc := "()V" } : Jvm.MethodName)) ∈ lw_all := lw_g (lw_at lw_m7 81 rfl) rfl
theorem q1593 : (Jvm.Cond.code ({ cls := "DrawerRing", name := "save", desc := "()V" } : Jvm.MethodName) prog_1_method_3_code (2 : Nat) (Option.none : Option Jvm.ClassFile.FieldType)) ∈ lw_all := lw_g (lw_at lw_m7 82 rfl) rfl
theorem q1594 : (Jvm.Cond.methodLink "DrawerRing" (39 : Nat) ({ cls := "java/util/ArrayList", name := "remove", desc := "(I)Ljava/lang/Object;" } : Jvm.MethodName)) ∈ lw_all := lw_g (lw_at lw_m7 83 rfl) rfl
theorem q1598 : (Jvm.Cond.methodLink "DrawerRing" (47 : Nat) ({ cls := "java/util/ArrayList", name := "add", desc := "(Ljava/lang/Object;)Z" } : Jvm.MethodName)) ∈ lw_all := lw_g (lw_at lw_m7 87 rfl) rfl
theorem q1599 : (Jvm.Cond.methodLink "DrawerRing" (105 : Nat) ({ cls := "DrawerRing$Ring", name := "put", desc := "(II)V" } : Jvm.MethodName)) ∈ lw_all := lw_g (lw_at lw_m7 88 rfl) rfl
theorem q1607 : (Jvm.Cond.instanceMethod ({ cls := "DrawerRing", name := "move", desc := "(II)I" } : Jvm.MethodName)) ∈ lw_all := lw_g (lw_at lw_m7 96 rfl) rfl
theorem q1608 : (Jvm.Cond.selects "DrawerRing" ({ cls := "DrawerRing", name := "move", desc := "(II)I" } : Jvm.MethodName) ({ cls := "DrawerRing", name := "move", desc := "(II)I" } : Jvm.MethodName)) ∈ lw_all := lw_g (lw_at lw_m7 97 rfl) rfl
theorem q1609 : (Jvm.Cond.code ({ cls := "DrawerRing", name := "move", desc := "(II)I" } : Jvm.MethodName) prog_1_method_11_code (5 : Nat) (Option.some Jvm.ClassFile.FieldType.int)) ∈ lw_all := lw_g (lw_at lw_m7 98 rfl) rfl
theorem q1610 : (Jvm.Cond.methodLink "DrawerRing" (109 : Nat) ({ cls := "DrawerRing$Ring", name := "item", desc := "(I)LDrawerRing$Item;" } : Jvm.MethodName)) ∈ lw_all := lw_g (lw_at lw_m7 99 rfl) rfl
theorem q1615 : (Jvm.Cond.instanceMethod ({ cls := "DrawerRing", name := "pick", desc := "(I)I" } : Jvm.MethodName)) ∈ lw_all := lw_g (lw_at lw_m7 104 rfl) rfl
theorem q1616 : (Jvm.Cond.selects "DrawerRing" ({ cls := "DrawerRing", name := "pick", desc := "(I)I" } : Jvm.MethodName) ({ cls := "DrawerRing", name := "pick", desc := "(I)I" } : Jvm.MethodName)) ∈ lw_all := lw_g (lw_at lw_m7 105 rfl) rfl
theorem q1617 : (Jvm.Cond.code ({ cls := "DrawerRing", name := "pick", desc := "(I)I" } : Jvm.MethodName) prog_1_method_12_code (3 : Nat) (Option.some Jvm.ClassFile.FieldType.int)) ∈ lw_all := lw_g (lw_at lw_m7 106 rfl) rfl
theorem q1618 : (Jvm.Cond.methodLink "DrawerRing" (129 : Nat) ({ cls := "DrawerRing$Ring", name := "pick", desc := "(LDrawerRing$Item;)I" } : Jvm.MethodName)) ∈ lw_all := lw_g (lw_at lw_m7 107 rfl) rfl
theorem q1623 : (Jvm.Cond.instanceMethod ({ cls := "DrawerRing", name := "turn", desc := "(I)I" } : Jvm.MethodName)) ∈ lw_all := lw_g (lw_at lw_m7 112 rfl) rfl
theorem q1624 : (Jvm.Cond.selects "DrawerRing" ({ cls := "DrawerRing", name := "turn", desc := "(I)I" } : Jvm.MethodName) ({ cls := "DrawerRing", name := "turn", desc := "(I)I" } : Jvm.MethodName)) ∈ lw_all := lw_g (lw_at lw_m7 113 rfl) rfl
theorem q1625 : (Jvm.Cond.code ({ cls := "DrawerRing", name := "turn", desc := "(I)I" } : Jvm.MethodName) prog_1_method_13_code (2 : Nat) (Option.some Jvm.ClassFile.FieldType.int)) ∈ lw_all := lw_g (lw_at lw_m7 114 rfl) rfl
theorem q1626 : (Jvm.Cond.methodLink "DrawerRing" (136 : Nat) ({ cls := "DrawerRing$Ring", name := "turn", desc := "(I)I" } : Jvm.MethodName)) ∈ lw_all := lw_g (lw_at lw_m7 115 rfl) rfl
theorem q1631 : (Jvm.Cond.instanceMethod ({ cls := "DrawerRing", name := "jam", desc := "(IZ)I" } : Jvm.MethodName)) ∈ lw_all := lw_g (lw_at lw_m7 120 rfl) rfl
theorem q1632 : (Jvm.Cond.selects "DrawerRing" ({ cls := "DrawerRing", name := "jam", desc := "(IZ)I" } : Jvm.MethodName) ({ cls := "DrawerRing", name := "jam", desc := "(IZ)I" } : Jvm.MethodName)) ∈ lw_all := lw_g (lw_at lw_m7 121 rfl) rfl
theorem q1633 : (Jvm.Cond.code ({ cls := "DrawerRing", name := "jam", desc := "(IZ)I" } : Jvm.MethodName) prog_1_method_14_code (4 : Nat) (Option.some Jvm.ClassFile.FieldType.int)) ∈ lw_all := lw_g (lw_at lw_m7 122 rfl) rfl
theorem q1638 : (Jvm.Cond.instanceMethod ({ cls := "DrawerRing", name := "set", desc := "(II)I" } : Jvm.MethodName)) ∈ lw_all := lw_g (lw_at lw_m7 127 rfl) rfl
theorem q1639 : (Jvm.Cond.selects "DrawerRing" ({ cls := "DrawerRing", name := "set", desc := "(II)I" } : Jvm.MethodName) ({ cls := "DrawerRing", name := "set", desc := "(II)I" } : Jvm.MethodName)) ∈ lw_all := lw_g (lw_at lw_m7 128 rfl) rfl
theorem q1640 : (Jvm.Cond.code ({ cls := "DrawerRing", name := "set", desc := "(II)I" } : Jvm.MethodName) prog_1_method_17_code (4 : Nat) (Option.some Jvm.ClassFile.FieldType.int)) ∈ lw_all := lw_g (lw_at lw_m7 129 rfl) rfl
theorem q1641 : (Jvm.Cond.methodLink "DrawerRing" (145 : Nat) ({ cls := "DrawerRing", name := "isSetting", desc := "(I)Z" } : Jvm.MethodName)) ∈ lw_all := lw_g (lw_at lw_m7 130 rfl) rfl
theorem q1642 : (Jvm.Cond.static ({ cls := "DrawerRing", name := "isSetting", desc := "(I)Z" } : Jvm.MethodName)) ∈ lw_all := lw_g (lw_at lw_m7 131 rfl) rfl
theorem q1643 : (Jvm.Cond.code ({ cls := "DrawerRing", name := "isSetting", desc := "(I)Z" } : Jvm.MethodName) prog_1_method_15_code (1 : Nat) (Option.some Jvm.ClassFile.FieldType.boolean)) ∈ lw_all := lw_g (lw_at lw_m7 132 rfl) rfl
theorem q1644 : (Jvm.Cond.fieldLink "DrawerRing" (148 : Nat) "DrawerRing" "LEAST" "[I") ∈ lw_all := lw_g (lw_at lw_m7 133 rfl) rfl
theorem q1645 : (Jvm.Cond.laysStatic "DrawerRing" "LEAST" "[I") ∈ lw_tbl := lw_at lw_m7 134 rfl
theorem q1646 : (Jvm.Cond.fieldLink "DrawerRing" (151 : Nat) "DrawerRing" "MOST" "[I") ∈ lw_all := lw_g (lw_at lw_m7 135 rfl) rfl
theorem q1647 : (Jvm.Cond.laysStatic "DrawerRing" "MOST" "[I") ∈ lw_tbl := lw_at lw_m7 136 rfl
theorem q1652 : (Jvm.Cond.instanceMethod ({ cls := "DrawerRing", name := "append", desc := "(I)I" } : Jvm.MethodName)) ∈ lw_all := lw_g (lw_at lw_m7 141 rfl) rfl
theorem q1653 : (Jvm.Cond.selects "DrawerRing" ({ cls := "DrawerRing", name := "append", desc := "(I)I" } : Jvm.MethodName) ({ cls := "DrawerRing", name := "append", desc := "(I)I" } : Jvm.MethodName)) ∈ lw_all := lw_g (lw_at lw_m7 142 rfl) rfl
theorem q1654 : (Jvm.Cond.code ({ cls := "DrawerRing", name := "append", desc := "(I)I" } : Jvm.MethodName) prog_1_method_18_code (2 : Nat) (Option.some Jvm.ClassFile.FieldType.int)) ∈ lw_all := lw_g (lw_at lw_m7 143 rfl) rfl
theorem q1655 : (Jvm.Cond.methodLink "DrawerRing" (160 : Nat) ({ cls := "java/lang/StringBuilder", name := "append", desc := "(C)Ljava/lang/StringBuilder;" } : Jvm.MethodName)) ∈ lw_all := lw_g (lw_at lw_m7 144 rfl) rfl
theorem q1676 : (Jvm.Cond.instanceMethod ({ cls := "DrawerRing", name := "pickAll", desc := "()I" } : Jvm.MethodName)) ∈ lw_all := lw_g (lw_at lw_m7 165 rfl) rfl
theorem q1677 : (Jvm.Cond.selects "DrawerRing" ({ cls := "DrawerRing", name := "pickAll", desc := "()I" } : Jvm.MethodName) ({ cls := "DrawerRing", name := "pickAll", desc := "()I" } : Jvm.MethodName)) ∈ lw_all := lw_g (lw_at lw_m7 166 rfl) rfl
theorem q1678 : (Jvm.Cond.code ({ cls := "DrawerRing", name := "pickAll", desc := "()I" } : Jvm.MethodName) prog_1_method_21_code (2 : Nat) (Option.some Jvm.ClassFile.FieldType.int)) ∈ lw_all := lw_g (lw_at lw_m7 167 rfl) rfl
theorem q1683 : (Jvm.Cond.instanceMethod ({ cls := "DrawerRing", name := "undo", desc := "()I" } : Jvm.MethodName)) ∈ lw_all := lw_g (lw_at lw_m7 172 rfl) rfl
theorem q1684 : (Jvm.Cond.selects "DrawerRing" ({ cls := "DrawerRing", name := "undo", desc := "()I" } : Jvm.MethodName) ({ cls := "DrawerRing", name := "undo", desc := "()I" } : Jvm.MethodName)) ∈ lw_all := lw_g (lw_at lw_m7 173 rfl) rfl
theorem q1685 : (Jvm.Cond.code ({ cls := "DrawerRing", name := "undo", desc := "()I" } : Jvm.MethodName) prog_1_method_22_code (1 : Nat) (Option.some Jvm.ClassFile.FieldType.int)) ∈ lw_all := lw_g (lw_at lw_m7 174 rfl) rfl
theorem q1686 : (Jvm.Cond.methodLink "DrawerRing" (190 : Nat) ({ cls := "java/util/ArrayList", name := "isEmpty", desc := "()Z" } : Jvm.MethodName)) ∈ lw_all := lw_g (lw_at lw_m7 175 rfl) rfl
theorem q1694 : (Jvm.Cond.instanceMethod ({ cls := "DrawerRing", name := "drawer", desc := "(II)I" } : Jvm.MethodName)) ∈ lw_all := lw_g (lw_at lw_m7 183 rfl) rfl
theorem q1695 : (Jvm.Cond.selects "DrawerRing" ({ cls := "DrawerRing", name := "drawer", desc := "(II)I" } : Jvm.MethodName) ({ cls := "DrawerRing", name := "drawer", desc := "(II)I" } : Jvm.MethodName)) ∈ lw_all := lw_g (lw_at lw_m7 184 rfl) rfl
theorem q1696 : (Jvm.Cond.code ({ cls := "DrawerRing", name := "drawer", desc := "(II)I" } : Jvm.MethodName) prog_1_method_25_code (3 : Nat) (Option.some Jvm.ClassFile.FieldType.int)) ∈ lw_all := lw_g (lw_at lw_m7 185 rfl) rfl
theorem q1701 : (Jvm.Cond.instanceMethod ({ cls := "DrawerRing", name := "item", desc := "(II)I" } : Jvm.MethodName)) ∈ lw_all := lw_g (lw_at lw_m7 190 rfl) rfl
theorem q1702 : (Jvm.Cond.selects "DrawerRing" ({ cls := "DrawerRing", name := "item", desc := "(II)I" } : Jvm.MethodName) ({ cls := "DrawerRing", name := "item", desc := "(II)I" } : Jvm.MethodName)) ∈ lw_all := lw_g (lw_at lw_m7 191 rfl) rfl
theorem q1703 : (Jvm.Cond.code ({ cls := "DrawerRing", name := "item", desc := "(II)I" } : Jvm.MethodName) prog_1_method_26_code (4 : Nat) (Option.some Jvm.ClassFile.FieldType.int)) ∈ lw_all := lw_g (lw_at lw_m7 192 rfl) rfl
theorem q1708 : (Jvm.Cond.instanceMethod ({ cls := "DrawerRing", name := "count", desc := "(I)I" } : Jvm.MethodName)) ∈ lw_all := lw_g (lw_at lw_m7 197 rfl) rfl
theorem q1709 : (Jvm.Cond.selects "DrawerRing" ({ cls := "DrawerRing", name := "count", desc := "(I)I" } : Jvm.MethodName) ({ cls := "DrawerRing", name := "count", desc := "(I)I" } : Jvm.MethodName)) ∈ lw_all := lw_g (lw_at lw_m7 198 rfl) rfl
theorem q1710 : (Jvm.Cond.code ({ cls := "DrawerRing", name := "count", desc := "(I)I" } : Jvm.MethodName) prog_1_method_30_code (2 : Nat) (Option.some Jvm.ClassFile.FieldType.int)) ∈ lw_all := lw_g (lw_at lw_m7 199 rfl) rfl
theorem q1715 : (Jvm.Cond.instanceMethod ({ cls := "DrawerRing", name := "setting", desc := "(I)I" } : Jvm.MethodName)) ∈ lw_all := lw_g (lw_at lw_m7 204 rfl) rfl
theorem q1716 : (Jvm.Cond.selects "DrawerRing" ({ cls := "DrawerRing", name := "setting", desc := "(I)I" } : Jvm.MethodName) ({ cls := "DrawerRing", name := "setting", desc := "(I)I" } : Jvm.MethodName)) ∈ lw_all := lw_g (lw_at lw_m7 205 rfl) rfl
theorem q1717 : (Jvm.Cond.code ({ cls := "DrawerRing", name := "setting", desc := "(I)I" } : Jvm.MethodName) prog_1_method_31_code (2 : Nat) (Option.some Jvm.ClassFile.FieldType.int)) ∈ lw_all := lw_g (lw_at lw_m7 206 rfl) rfl
theorem q1722 : (Jvm.Cond.instanceMethod ({ cls := "DrawerRing", name := "way", desc := "(I)I" } : Jvm.MethodName)) ∈ lw_all := lw_g (lw_at lw_m7 211 rfl) rfl
theorem q1723 : (Jvm.Cond.selects "DrawerRing" ({ cls := "DrawerRing", name := "way", desc := "(I)I" } : Jvm.MethodName) ({ cls := "DrawerRing", name := "way", desc := "(I)I" } : Jvm.MethodName)) ∈ lw_all := lw_g (lw_at lw_m7 212 rfl) rfl
theorem q1724 : (Jvm.Cond.code ({ cls := "DrawerRing", name := "way", desc := "(I)I" } : Jvm.MethodName) prog_1_method_33_code (2 : Nat) (Option.some Jvm.ClassFile.FieldType.int)) ∈ lw_all := lw_g (lw_at lw_m7 213 rfl) rfl
theorem q1729 : (Jvm.Cond.instanceMethod ({ cls := "DrawerRing", name := "ifPut", desc := "(II)I" } : Jvm.MethodName)) ∈ lw_all := lw_g (lw_at lw_m7 218 rfl) rfl
theorem q1730 : (Jvm.Cond.selects "DrawerRing" ({ cls := "DrawerRing", name := "ifPut", desc := "(II)I" } : Jvm.MethodName) ({ cls := "DrawerRing", name := "ifPut", desc := "(II)I" } : Jvm.MethodName)) ∈ lw_all := lw_g (lw_at lw_m7 219 rfl) rfl
theorem q1731 : (Jvm.Cond.code ({ cls := "DrawerRing", name := "ifPut", desc := "(II)I" } : Jvm.MethodName) prog_1_method_35_code (3 : Nat) (Option.some Jvm.ClassFile.FieldType.int)) ∈ lw_all := lw_g (lw_at lw_m7 220 rfl) rfl
theorem q1736 : (Jvm.Cond.instanceMethod ({ cls := "DrawerRing", name := "bestDrawer", desc := "(I)I" } : Jvm.MethodName)) ∈ lw_all := lw_g (lw_at lw_m7 225 rfl) rfl
theorem q1737 : (Jvm.Cond.selects "DrawerRing" ({ cls := "DrawerRing", name := "bestDrawer", desc := "(I)I" } : Jvm.MethodName) ({ cls := "DrawerRing", name := "bestDrawer", desc := "(I)I" } : Jvm.MethodName)) ∈ lw_all := lw_g (lw_at lw_m7 226 rfl) rfl
theorem q1738 : (Jvm.Cond.code ({ cls := "DrawerRing", name := "bestDrawer", desc := "(I)I" } : Jvm.MethodName) prog_1_method_37_code (2 : Nat) (Option.some Jvm.ClassFile.FieldType.int)) ∈ lw_all := lw_g (lw_at lw_m7 227 rfl) rfl
theorem q1743 : (Jvm.Cond.instanceMethod ({ cls := "DrawerRing", name := "ifPicked", desc := "(II)I" } : Jvm.MethodName)) ∈ lw_all := lw_g (lw_at lw_m7 232 rfl) rfl
theorem q1744 : (Jvm.Cond.selects "DrawerRing" ({ cls := "DrawerRing", name := "ifPicked", desc := "(II)I" } : Jvm.MethodName) ({ cls := "DrawerRing", name := "ifPicked", desc := "(II)I" } : Jvm.MethodName)) ∈ lw_all := lw_g (lw_at lw_m7 233 rfl) rfl
theorem q1745 : (Jvm.Cond.code ({ cls := "DrawerRing", name := "ifPicked", desc := "(II)I" } : Jvm.MethodName) prog_1_method_39_code (4 : Nat) (Option.some Jvm.ClassFile.FieldType.int)) ∈ lw_all := lw_g (lw_at lw_m7 234 rfl) rfl
theorem q2081 : (Jvm.Cond.castable "DrawerRing" "java/lang/Object") ∈ lw_tbl := lw_at lw_m9 90 rfl
theorem in_X1 : ∀ w ∈ wsX10, w ∈ lw_all := lw_in wsX10 [273, 275, 277, 279, 281] (by decide +kernel) (by decide +kernel)

