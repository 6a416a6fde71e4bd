/-! java/util/AbstractCollection -/
set_option maxRecDepth 100000
def RJ0 : String := "java/util/AbstractCollection"
abbrev cJ0_init : ByteArray := prog_37_method_1_code
def yJ0_init : MethodName := ⟨RJ0, "<init>", "()V"⟩
theorem dJ0_init_0 : decode cJ0_init 0 = .ok (.aload_n 0, 1) := by decide +kernel
theorem dJ0_init_1 : decode cJ0_init 1 = .ok (.invokespecial 1, 3) := by decide +kernel
theorem dJ0_init_4 : decode cJ0_init 4 = .ok (.return_, 1) := by decide +kernel
theorem q74 : (Jvm.Cond.initialized "java/util/AbstractCollection") ∈ lw_all := lw_g (lw_at lw_m1 3 rfl) rfl
theorem q135 : (Jvm.Cond.instanceMethod ({ cls := "java/util/AbstractCollection", name := "<init>", desc := "()V" } : Jvm.MethodName)) ∈ lw_all := lw_g (lw_at lw_m1 64 rfl) rfl
theorem q136 : (Jvm.Cond.code ({ cls := "java/util/AbstractCollection", name := "<init>", desc := "()V" } : Jvm.MethodName) prog_37_method_1_code (1 : Nat) (Option.none : Option Jvm.ClassFile.FieldType)) ∈ lw_all := lw_g (lw_at lw_m1 65 rfl) rfl
theorem q137 : (Jvm.Cond.methodLink "java/util/AbstractCollection" (1 : Nat) ({ cls := "java/lang/Object", name := "<init>", desc := "()V" } : Jvm.MethodName)) ∈ lw_all := lw_g (lw_at lw_m1 66 rfl) rfl

/-! java/util/AbstractList -/
set_option maxRecDepth 100000
def RJ1 : String := "java/util/AbstractList"
abbrev cJ1_init : ByteArray := prog_38_method_1_code
def yJ1_init : MethodName := ⟨RJ1, "<init>", "()V"⟩
def dkwJ1_init_0 : List UInt8 := [42, 183, 0, 1, 42, 3, 181, 0, 7, 177]
abbrev dktJ1_init_0 : List UInt8 := dkwJ1_init_0 ++ []
theorem dksJ1_init_0 : cJ1_init.data.toList.drop 0 = dktJ1_init_0 := by decide +kernel
theorem dJ1_init_0 : decode cJ1_init 0 = .ok (.aload_n 0, 1) := dk_42 (dk_at dksJ1_init_0 0 rfl rfl)
theorem dJ1_init_1 : decode cJ1_init 1 = .ok (.invokespecial 1, 3) := dk_183 0 1 (dk_at dksJ1_init_0 1 rfl rfl)
theorem dJ1_init_4 : decode cJ1_init 4 = .ok (.aload_n 0, 1) := dk_42 (dk_at dksJ1_init_0 4 rfl rfl)
theorem dJ1_init_5 : decode cJ1_init 5 = .ok (.iconst 0, 1) := dk_3 (dk_at dksJ1_init_0 5 rfl rfl)
theorem dJ1_init_6 : decode cJ1_init 6 = .ok (.putfield 7, 3) := dk_181 0 7 (dk_at dksJ1_init_0 6 rfl rfl)
theorem dJ1_init_9 : decode cJ1_init 9 = .ok (.return_, 1) := dk_177 (dk_at dksJ1_init_0 9 rfl rfl)
theorem q75 : (Jvm.Cond.initialized "java/util/AbstractList") ∈ lw_all := lw_g (lw_at lw_m1 4 rfl) rfl
theorem q132 : (Jvm.Cond.instanceMethod ({ cls := "java/util/AbstractList", name := "<init>", desc := "()V" } : Jvm.MethodName)) ∈ lw_all := lw_g (lw_at lw_m1 61 rfl) rfl
theorem q133 : (Jvm.Cond.code ({ cls := "java/util/AbstractList", name := "<init>", desc := "()V" } : Jvm.MethodName) prog_38_method_1_code (1 : Nat) (Option.none : Option Jvm.ClassFile.FieldType)) ∈ lw_all := lw_g (lw_at lw_m1 62 rfl) rfl
theorem q134 : (Jvm.Cond.methodLink "java/util/AbstractList" (1 : Nat) ({ cls := "java/util/AbstractCollection", name := "<init>", desc := "()V" } : Jvm.MethodName)) ∈ lw_all := lw_g (lw_at lw_m1 63 rfl) rfl
theorem q142 : (Jvm.Cond.fieldLink "java/util/AbstractList" (7 : Nat) "java/util/AbstractList" "modCount" "I") ∈ lw_all := lw_g (lw_at lw_m1 71 rfl) rfl
theorem q150 : (Jvm.Cond.soleField "java/util/AbstractList" "modCount") ∈ lw_all := lw_g (lw_at lw_m1 79 rfl) rfl

/-! java/util/ArrayList -/
set_option maxRecDepth 100000
def RJ2 : String := "java/util/ArrayList"
def TJ2 : u_T := fun k => match k with
  | 0 => ("java/util/AbstractList", "modCount", "I", false)
  | 1 => ("java/util/ArrayList", "elementData", "[Ljava/lang/Object;", false)
  | _ => ("java/util/ArrayList", "size", "I", false)
def tyJ2 : Nat → FieldType := fun k => match k with
  | 0 => .int
  | 1 => .array (.object "java/lang/Object")
  | _ => .int
abbrev wsJ20 : List Cond := u_ws RJ2 TJ2 3
theorem nmJ2 : ∀ a, a < 3 → ∀ b, b < 3 → a ≠ b → (TJ2 a).2.1 ≠ (TJ2 b).2.1 := by decide +kernel
theorem tyJ2_ok : ∀ k, k < 3 → parseFieldDescriptor (TJ2 k).2.2.1 = some (tyJ2 k) := by decide +kernel
abbrev cJ2_init : ByteArray := prog_40_method_2_code
def yJ2_init : MethodName := ⟨RJ2, "<init>", "()V"⟩
def dkwJ2_init_0 : List UInt8 := [42, 183, 0, 1, 42, 178, 0, 39, 181, 0, 9, 177]
abbrev dktJ2_init_0 : List UInt8 := dkwJ2_init_0 ++ []
theorem dksJ2_init_0 : cJ2_init.data.toList.drop 0 = dktJ2_init_0 := by decide +kernel
theorem dJ2_init_0 : decode cJ2_init 0 = .ok (.aload_n 0, 1) := dk_42 (dk_at dksJ2_init_0 0 rfl rfl)
theorem dJ2_init_1 : decode cJ2_init 1 = .ok (.invokespecial 1, 3) := dk_183 0 1 (dk_at dksJ2_init_0 1 rfl rfl)
theorem dJ2_init_4 : decode cJ2_init 4 = .ok (.aload_n 0, 1) := dk_42 (dk_at dksJ2_init_0 4 rfl rfl)
theorem dJ2_init_5 : decode cJ2_init 5 = .ok (.getstatic 39, 3) := dk_178 0 39 (dk_at dksJ2_init_0 5 rfl rfl)
theorem dJ2_init_8 : decode cJ2_init 8 = .ok (.putfield 9, 3) := dk_181 0 9 (dk_at dksJ2_init_0 8 rfl rfl)
theorem dJ2_init_11 : decode cJ2_init 11 = .ok (.return_, 1) := dk_177 (dk_at dksJ2_init_0 11 rfl rfl)
abbrev cJ2_size : ByteArray := prog_40_method_8_code
def yJ2_size : MethodName := ⟨RJ2, "size", "()I"⟩
theorem dJ2_size_0 : decode cJ2_size 0 = .ok (.aload_n 0, 1) := by decide +kernel
theorem dJ2_size_1 : decode cJ2_size 1 = .ok (.getfield 48, 3) := by decide +kernel
theorem dJ2_size_4 : decode cJ2_size 4 = .ok (.ireturn, 1) := by decide +kernel
abbrev cJ2_get : ByteArray := prog_40_method_20_code
def yJ2_get : MethodName := ⟨RJ2, "get", "(I)Ljava/lang/Object;"⟩
def dkwJ2_get_0 : List UInt8 := [27, 42, 180, 0, 48, 184, 0, 118, 87, 42, 27, 182, 0, 123, 176]
abbrev dktJ2_get_0 : List UInt8 := dkwJ2_get_0 ++ []
theorem dksJ2_get_0 : cJ2_get.data.toList.drop 0 = dktJ2_get_0 := by decide +kernel
theorem dJ2_get_0 : decode cJ2_get 0 = .ok (.iload_n 1, 1) := dk_27 (dk_at dksJ2_get_0 0 rfl rfl)
theorem dJ2_get_1 : decode cJ2_get 1 = .ok (.aload_n 0, 1) := dk_42 (dk_at dksJ2_get_0 1 rfl rfl)
theorem dJ2_get_2 : decode cJ2_get 2 = .ok (.getfield 48, 3) := dk_180 0 48 (dk_at dksJ2_get_0 2 rfl rfl)
theorem dJ2_get_5 : decode cJ2_get 5 = .ok (.invokestatic 118, 3) := dk_184 0 118 (dk_at dksJ2_get_0 5 rfl rfl)
theorem dJ2_get_8 : decode cJ2_get 8 = .ok (.pop, 1) := dk_87 (dk_at dksJ2_get_0 8 rfl rfl)
theorem dJ2_get_9 : decode cJ2_get 9 = .ok (.aload_n 0, 1) := dk_42 (dk_at dksJ2_get_0 9 rfl rfl)
theorem dJ2_get_10 : decode cJ2_get 10 = .ok (.iload_n 1, 1) := dk_27 (dk_at dksJ2_get_0 10 rfl rfl)
theorem dJ2_get_11 : decode cJ2_get 11 = .ok (.invokevirtual 123, 3) := dk_182 0 123 (dk_at dksJ2_get_0 11 rfl rfl)
theorem dJ2_get_14 : decode cJ2_get 14 = .ok (.areturn, 1) := dk_176 (dk_at dksJ2_get_0 14 rfl rfl)
abbrev cJ2_elementData : ByteArray := prog_40_method_18_code
def yJ2_elementData : MethodName := ⟨RJ2, "elementData", "(I)Ljava/lang/Object;"⟩
def dkwJ2_elementData_0 : List UInt8 := [42, 180, 0, 9, 27, 50, 176]
abbrev dktJ2_elementData_0 : List UInt8 := dkwJ2_elementData_0 ++ []
theorem dksJ2_elementData_0 : cJ2_elementData.data.toList.drop 0 = dktJ2_elementData_0 := by decide +kernel
theorem dJ2_elementData_0 : decode cJ2_elementData 0 = .ok (.aload_n 0, 1) := dk_42 (dk_at dksJ2_elementData_0 0 rfl rfl)
theorem dJ2_elementData_1 : decode cJ2_elementData 1 = .ok (.getfield 9, 3) := dk_180 0 9 (dk_at dksJ2_elementData_0 1 rfl rfl)
theorem dJ2_elementData_4 : decode cJ2_elementData 4 = .ok (.iload_n 1, 1) := dk_27 (dk_at dksJ2_elementData_0 4 rfl rfl)
theorem dJ2_elementData_5 : decode cJ2_elementData 5 = .ok (.aaload, 1) := dk_50 (dk_at dksJ2_elementData_0 5 rfl rfl)
theorem dJ2_elementData_6 : decode cJ2_elementData 6 = .ok (.areturn, 1) := dk_176 (dk_at dksJ2_elementData_0 6 rfl rfl)
abbrev cJ2_clear : ByteArray := prog_40_method_40_code
def yJ2_clear : MethodName := ⟨RJ2, "clear", "()V"⟩
def dkwJ2_clear_1 : List UInt8 := [181, 0, 48, 62, 29, 28, 162, 0, 13, 43, 29, 1, 83, 132, 3, 1, 167, 255, 244, 177]
abbrev dktJ2_clear_1 : List UInt8 := dkwJ2_clear_1 ++ []
def dkwJ2_clear_0 : List UInt8 := [42, 89, 180, 0, 63, 4, 96, 181, 0, 63, 42, 180, 0, 9, 76, 42, 180, 0, 48, 61, 42, 3, 90]
abbrev dktJ2_clear_0 : List UInt8 := dkwJ2_clear_0 ++ dktJ2_clear_1
theorem dksJ2_clear_0 : cJ2_clear.data.toList.drop 0 = dktJ2_clear_0 := by decide +kernel
theorem dksJ2_clear_1 : cJ2_clear.data.toList.drop 23 = dktJ2_clear_1 := dk_seg dksJ2_clear_0 23 rfl rfl
theorem dJ2_clear_0 : decode cJ2_clear 0 = .ok (.aload_n 0, 1) := dk_42 (dk_at dksJ2_clear_0 0 rfl rfl)
theorem dJ2_clear_1 : decode cJ2_clear 1 = .ok (.dup, 1) := dk_89 (dk_at dksJ2_clear_0 1 rfl rfl)
theorem dJ2_clear_2 : decode cJ2_clear 2 = .ok (.getfield 63, 3) := dk_180 0 63 (dk_at dksJ2_clear_0 2 rfl rfl)
theorem dJ2_clear_5 : decode cJ2_clear 5 = .ok (.iconst 1, 1) := dk_4 (dk_at dksJ2_clear_0 5 rfl rfl)
theorem dJ2_clear_6 : decode cJ2_clear 6 = .ok (.iadd, 1) := dk_96 (dk_at dksJ2_clear_0 6 rfl rfl)
theorem dJ2_clear_7 : decode cJ2_clear 7 = .ok (.putfield 63, 3) := dk_181 0 63 (dk_at dksJ2_clear_0 7 rfl rfl)
theorem dJ2_clear_10 : decode cJ2_clear 10 = .ok (.aload_n 0, 1) := dk_42 (dk_at dksJ2_clear_0 10 rfl rfl)
theorem dJ2_clear_11 : decode cJ2_clear 11 = .ok (.getfield 9, 3) := dk_180 0 9 (dk_at dksJ2_clear_0 11 rfl rfl)
theorem dJ2_clear_14 : decode cJ2_clear 14 = .ok (.astore_n 1, 1) := dk_76 (dk_at dksJ2_clear_0 14 rfl rfl)
theorem dJ2_clear_15 : decode cJ2_clear 15 = .ok (.aload_n 0, 1) := dk_42 (dk_at dksJ2_clear_0 15 rfl rfl)
theorem dJ2_clear_16 : decode cJ2_clear 16 = .ok (.getfield 48, 3) := dk_180 0 48 (dk_at dksJ2_clear_0 16 rfl rfl)
theorem dJ2_clear_19 : decode cJ2_clear 19 = .ok (.istore_n 2, 1) := dk_61 (dk_at dksJ2_clear_0 19 rfl rfl)
theorem dJ2_clear_20 : decode cJ2_clear 20 = .ok (.aload_n 0, 1) := dk_42 (dk_at dksJ2_clear_0 20 rfl rfl)
theorem dJ2_clear_21 : decode cJ2_clear 21 = .ok (.iconst 0, 1) := dk_3 (dk_at dksJ2_clear_0 21 rfl rfl)
theorem dJ2_clear_22 : decode cJ2_clear 22 = .ok (.dup_x1, 1) := dk_90 (dk_at dksJ2_clear_0 22 rfl rfl)
theorem dJ2_clear_23 : decode cJ2_clear 23 = .ok (.putfield 48, 3) := dk_181 0 48 (dk_at dksJ2_clear_1 0 rfl rfl)
theorem dJ2_clear_26 : decode cJ2_clear 26 = .ok (.istore_n 3, 1) := dk_62 (dk_at dksJ2_clear_1 3 rfl rfl)
theorem dJ2_clear_27 : decode cJ2_clear 27 = .ok (.iload_n 3, 1) := dk_29 (dk_at dksJ2_clear_1 4 rfl rfl)
theorem dJ2_clear_28 : decode cJ2_clear 28 = .ok (.iload_n 2, 1) := dk_28 (dk_at dksJ2_clear_1 5 rfl rfl)
theorem dJ2_clear_29 : decode cJ2_clear 29 = .ok (.if_icmp .ge 13, 3) := dk_162 0 13 (dk_at dksJ2_clear_1 6 rfl rfl)
theorem dJ2_clear_32 : decode cJ2_clear 32 = .ok (.aload_n 1, 1) := dk_43 (dk_at dksJ2_clear_1 9 rfl rfl)
theorem dJ2_clear_33 : decode cJ2_clear 33 = .ok (.iload_n 3, 1) := dk_29 (dk_at dksJ2_clear_1 10 rfl rfl)
theorem dJ2_clear_34 : decode cJ2_clear 34 = .ok (.aconst_null, 1) := dk_1 (dk_at dksJ2_clear_1 11 rfl rfl)
theorem dJ2_clear_35 : decode cJ2_clear 35 = .ok (.aastore, 1) := dk_83 (dk_at dksJ2_clear_1 12 rfl rfl)
theorem dJ2_clear_36 : decode cJ2_clear 36 = .ok (.iinc 3 1, 3) := dk_132 3 1 (dk_at dksJ2_clear_1 13 rfl rfl)
theorem dJ2_clear_39 : decode cJ2_clear 39 = .ok (.goto (-12), 3) := dk_167 255 244 (dk_at dksJ2_clear_1 16 rfl rfl)
theorem dJ2_clear_42 : decode cJ2_clear 42 = .ok (.return_, 1) := dk_177 (dk_at dksJ2_clear_1 19 rfl rfl)
abbrev cJ2_add : ByteArray := prog_40_method_25_code
def yJ2_add : MethodName := ⟨RJ2, "add", "(Ljava/lang/Object;)Z"⟩
def dkwJ2_add_1 : List UInt8 := [172]
abbrev dktJ2_add_1 : List UInt8 := dkwJ2_add_1 ++ []
def dkwJ2_add_0 : List UInt8 := [42, 89, 180, 0, 63, 4, 96, 181, 0, 63, 42, 43, 42, 180, 0, 9, 42, 180, 0, 48, 182, 0, 131, 4]
abbrev dktJ2_add_0 : List UInt8 := dkwJ2_add_0 ++ dktJ2_add_1
theorem dksJ2_add_0 : cJ2_add.data.toList.drop 0 = dktJ2_add_0 := by decide +kernel
theorem dksJ2_add_1 : cJ2_add.data.toList.drop 24 = dktJ2_add_1 := dk_seg dksJ2_add_0 24 rfl rfl
theorem dJ2_add_0 : decode cJ2_add 0 = .ok (.aload_n 0, 1) := dk_42 (dk_at dksJ2_add_0 0 rfl rfl)
theorem dJ2_add_1 : decode cJ2_add 1 = .ok (.dup, 1) := dk_89 (dk_at dksJ2_add_0 1 rfl rfl)
theorem dJ2_add_2 : decode cJ2_add 2 = .ok (.getfield 63, 3) := dk_180 0 63 (dk_at dksJ2_add_0 2 rfl rfl)
theorem dJ2_add_5 : decode cJ2_add 5 = .ok (.iconst 1, 1) := dk_4 (dk_at dksJ2_add_0 5 rfl rfl)
theorem dJ2_add_6 : decode cJ2_add 6 = .ok (.iadd, 1) := dk_96 (dk_at dksJ2_add_0 6 rfl rfl)
theorem dJ2_add_7 : decode cJ2_add 7 = .ok (.putfield 63, 3) := dk_181 0 63 (dk_at dksJ2_add_0 7 rfl rfl)
theorem dJ2_add_10 : decode cJ2_add 10 = .ok (.aload_n 0, 1) := dk_42 (dk_at dksJ2_add_0 10 rfl rfl)
theorem dJ2_add_11 : decode cJ2_add 11 = .ok (.aload_n 1, 1) := dk_43 (dk_at dksJ2_add_0 11 rfl rfl)
theorem dJ2_add_12 : decode cJ2_add 12 = .ok (.aload_n 0, 1) := dk_42 (dk_at dksJ2_add_0 12 rfl rfl)
theorem dJ2_add_13 : decode cJ2_add 13 = .ok (.getfield 9, 3) := dk_180 0 9 (dk_at dksJ2_add_0 13 rfl rfl)
theorem dJ2_add_16 : decode cJ2_add 16 = .ok (.aload_n 0, 1) := dk_42 (dk_at dksJ2_add_0 16 rfl rfl)
theorem dJ2_add_17 : decode cJ2_add 17 = .ok (.getfield 48, 3) := dk_180 0 48 (dk_at dksJ2_add_0 17 rfl rfl)
theorem dJ2_add_20 : decode cJ2_add 20 = .ok (.invokevirtual 131, 3) := dk_182 0 131 (dk_at dksJ2_add_0 20 rfl rfl)
theorem dJ2_add_23 : decode cJ2_add 23 = .ok (.iconst 1, 1) := dk_4 (dk_at dksJ2_add_0 23 rfl rfl)
theorem dJ2_add_24 : decode cJ2_add 24 = .ok (.ireturn, 1) := dk_172 (dk_at dksJ2_add_1 0 rfl rfl)
abbrev cJ2_add_2 : ByteArray := prog_40_method_24_code
def yJ2_add_2 : MethodName := ⟨RJ2, "add", "(Ljava/lang/Object;[Ljava/lang/Object;I)V"⟩
def dkwJ2_add_2_0 : List UInt8 := [29, 44, 190, 160, 0, 8, 42, 182, 0, 129, 77, 44, 29, 43, 83, 42, 29, 4, 96, 181, 0, 48, 177]
abbrev dktJ2_add_2_0 : List UInt8 := dkwJ2_add_2_0 ++ []
theorem dksJ2_add_2_0 : cJ2_add_2.data.toList.drop 0 = dktJ2_add_2_0 := by decide +kernel
theorem dJ2_add_2_0 : decode cJ2_add_2 0 = .ok (.iload_n 3, 1) := dk_29 (dk_at dksJ2_add_2_0 0 rfl rfl)
theorem dJ2_add_2_1 : decode cJ2_add_2 1 = .ok (.aload_n 2, 1) := dk_44 (dk_at dksJ2_add_2_0 1 rfl rfl)
theorem dJ2_add_2_2 : decode cJ2_add_2 2 = .ok (.arraylength, 1) := dk_190 (dk_at dksJ2_add_2_0 2 rfl rfl)
theorem dJ2_add_2_3 : decode cJ2_add_2 3 = .ok (.if_icmp .ne 8, 3) := dk_160 0 8 (dk_at dksJ2_add_2_0 3 rfl rfl)
theorem dJ2_add_2_6 : decode cJ2_add_2 6 = .ok (.aload_n 0, 1) := dk_42 (dk_at dksJ2_add_2_0 6 rfl rfl)
theorem dJ2_add_2_7 : decode cJ2_add_2 7 = .ok (.invokevirtual 129, 3) := dk_182 0 129 (dk_at dksJ2_add_2_0 7 rfl rfl)
theorem dJ2_add_2_10 : decode cJ2_add_2 10 = .ok (.astore_n 2, 1) := dk_77 (dk_at dksJ2_add_2_0 10 rfl rfl)
theorem dJ2_add_2_11 : decode cJ2_add_2 11 = .ok (.aload_n 2, 1) := dk_44 (dk_at dksJ2_add_2_0 11 rfl rfl)
theorem dJ2_add_2_12 : decode cJ2_add_2 12 = .ok (.iload_n 3, 1) := dk_29 (dk_at dksJ2_add_2_0 12 rfl rfl)
theorem dJ2_add_2_13 : decode cJ2_add_2 13 = .ok (.aload_n 1, 1) := dk_43 (dk_at dksJ2_add_2_0 13 rfl rfl)
theorem dJ2_add_2_14 : decode cJ2_add_2 14 = .ok (.aastore, 1) := dk_83 (dk_at dksJ2_add_2_0 14 rfl rfl)
theorem dJ2_add_2_15 : decode cJ2_add_2 15 = .ok (.aload_n 0, 1) := dk_42 (dk_at dksJ2_add_2_0 15 rfl rfl)
theorem dJ2_add_2_16 : decode cJ2_add_2 16 = .ok (.iload_n 3, 1) := dk_29 (dk_at dksJ2_add_2_0 16 rfl rfl)
theorem dJ2_add_2_17 : decode cJ2_add_2 17 = .ok (.iconst 1, 1) := dk_4 (dk_at dksJ2_add_2_0 17 rfl rfl)
theorem dJ2_add_2_18 : decode cJ2_add_2 18 = .ok (.iadd, 1) := dk_96 (dk_at dksJ2_add_2_0 18 rfl rfl)
theorem dJ2_add_2_19 : decode cJ2_add_2 19 = .ok (.putfield 48, 3) := dk_181 0 48 (dk_at dksJ2_add_2_0 19 rfl rfl)
theorem dJ2_add_2_22 : decode cJ2_add_2 22 = .ok (.return_, 1) := dk_177 (dk_at dksJ2_add_2_0 22 rfl rfl)
abbrev cJ2_grow : ByteArray := prog_40_method_7_code
def yJ2_grow : MethodName := ⟨RJ2, "grow", "()[Ljava/lang/Object;"⟩
def dkwJ2_grow_0 : List UInt8 := [42, 42, 180, 0, 48, 4, 96, 182, 0, 69, 176]
abbrev dktJ2_grow_0 : List UInt8 := dkwJ2_grow_0 ++ []
theorem dksJ2_grow_0 : cJ2_grow.data.toList.drop 0 = dktJ2_grow_0 := by decide +kernel
theorem dJ2_grow_0 : decode cJ2_grow 0 = .ok (.aload_n 0, 1) := dk_42 (dk_at dksJ2_grow_0 0 rfl rfl)
theorem dJ2_grow_1 : decode cJ2_grow 1 = .ok (.aload_n 0, 1) := dk_42 (dk_at dksJ2_grow_0 1 rfl rfl)
theorem dJ2_grow_2 : decode cJ2_grow 2 = .ok (.getfield 48, 3) := dk_180 0 48 (dk_at dksJ2_grow_0 2 rfl rfl)
theorem dJ2_grow_5 : decode cJ2_grow 5 = .ok (.iconst 1, 1) := dk_4 (dk_at dksJ2_grow_0 5 rfl rfl)
theorem dJ2_grow_6 : decode cJ2_grow 6 = .ok (.iadd, 1) := dk_96 (dk_at dksJ2_grow_0 6 rfl rfl)
theorem dJ2_grow_7 : decode cJ2_grow 7 = .ok (.invokevirtual 69, 3) := dk_182 0 69 (dk_at dksJ2_grow_0 7 rfl rfl)
theorem dJ2_grow_10 : decode cJ2_grow 10 = .ok (.areturn, 1) := dk_176 (dk_at dksJ2_grow_0 10 rfl rfl)
abbrev cJ2_grow_2 : ByteArray := prog_40_method_6_code
def yJ2_grow_2 : MethodName := ⟨RJ2, "grow", "(I)[Ljava/lang/Object;"⟩
def dkwJ2_grow_2_2 : List UInt8 := [27, 184, 0, 79, 189, 0, 7, 90, 181, 0, 9, 176]
abbrev dktJ2_grow_2_2 : List UInt8 := dkwJ2_grow_2_2 ++ []
def dkwJ2_grow_2_1 : List UInt8 := [28, 4, 122, 184, 0, 73, 62, 42, 42, 180, 0, 9, 29, 184, 0, 66, 90, 181, 0, 9, 176, 42, 16, 10]
abbrev dktJ2_grow_2_1 : List UInt8 := dkwJ2_grow_2_1 ++ dktJ2_grow_2_2
def dkwJ2_grow_2_0 : List UInt8 := [42, 180, 0, 9, 190, 61, 28, 157, 0, 13, 42, 180, 0, 9, 178, 0, 39, 165, 0, 28, 28, 27, 28, 100]
abbrev dktJ2_grow_2_0 : List UInt8 := dkwJ2_grow_2_0 ++ dktJ2_grow_2_1
theorem dksJ2_grow_2_0 : cJ2_grow_2.data.toList.drop 0 = dktJ2_grow_2_0 := by decide +kernel
theorem dksJ2_grow_2_1 : cJ2_grow_2.data.toList.drop 24 = dktJ2_grow_2_1 := dk_seg dksJ2_grow_2_0 24 rfl rfl
theorem dksJ2_grow_2_2 : cJ2_grow_2.data.toList.drop 48 = dktJ2_grow_2_2 := dk_seg dksJ2_grow_2_1 24 rfl rfl
theorem dJ2_grow_2_0 : decode cJ2_grow_2 0 = .ok (.aload_n 0, 1) := dk_42 (dk_at dksJ2_grow_2_0 0 rfl rfl)
theorem dJ2_grow_2_1 : decode cJ2_grow_2 1 = .ok (.getfield 9, 3) := dk_180 0 9 (dk_at dksJ2_grow_2_0 1 rfl rfl)
theorem dJ2_grow_2_4 : decode cJ2_grow_2 4 = .ok (.arraylength, 1) := dk_190 (dk_at dksJ2_grow_2_0 4 rfl rfl)
theorem dJ2_grow_2_5 : decode cJ2_grow_2 5 = .ok (.istore_n 2, 1) := dk_61 (dk_at dksJ2_grow_2_0 5 rfl rfl)
theorem dJ2_grow_2_6 : decode cJ2_grow_2 6 = .ok (.iload_n 2, 1) := dk_28 (dk_at dksJ2_grow_2_0 6 rfl rfl)
theorem dJ2_grow_2_7 : decode cJ2_grow_2 7 = .ok (.ifCond .gt 13, 3) := dk_157 0 13 (dk_at dksJ2_grow_2_0 7 rfl rfl)
theorem dJ2_grow_2_10 : decode cJ2_grow_2 10 = .ok (.aload_n 0, 1) := dk_42 (dk_at dksJ2_grow_2_0 10 rfl rfl)
theorem dJ2_grow_2_11 : decode cJ2_grow_2 11 = .ok (.getfield 9, 3) := dk_180 0 9 (dk_at dksJ2_grow_2_0 11 rfl rfl)
theorem dJ2_grow_2_14 : decode cJ2_grow_2 14 = .ok (.getstatic 39, 3) := dk_178 0 39 (dk_at dksJ2_grow_2_0 14 rfl rfl)
theorem dJ2_grow_2_17 : decode cJ2_grow_2 17 = .ok (.if_acmp .eq 28, 3) := dk_165 0 28 (dk_at dksJ2_grow_2_0 17 rfl rfl)
theorem dJ2_grow_2_20 : decode cJ2_grow_2 20 = .ok (.iload_n 2, 1) := dk_28 (dk_at dksJ2_grow_2_0 20 rfl rfl)
theorem dJ2_grow_2_21 : decode cJ2_grow_2 21 = .ok (.iload_n 1, 1) := dk_27 (dk_at dksJ2_grow_2_0 21 rfl rfl)
theorem dJ2_grow_2_22 : decode cJ2_grow_2 22 = .ok (.iload_n 2, 1) := dk_28 (dk_at dksJ2_grow_2_0 22 rfl rfl)
theorem dJ2_grow_2_23 : decode cJ2_grow_2 23 = .ok (.isub, 1) := dk_100 (dk_at dksJ2_grow_2_0 23 rfl rfl)
theorem dJ2_grow_2_24 : decode cJ2_grow_2 24 = .ok (.iload_n 2, 1) := dk_28 (dk_at dksJ2_grow_2_1 0 rfl rfl)
theorem dJ2_grow_2_25 : decode cJ2_grow_2 25 = .ok (.iconst 1, 1) := dk_4 (dk_at dksJ2_grow_2_1 1 rfl rfl)
theorem dJ2_grow_2_26 : decode cJ2_grow_2 26 = .ok (.ishr, 1) := dk_122 (dk_at dksJ2_grow_2_1 2 rfl rfl)
theorem dJ2_grow_2_27 : decode cJ2_grow_2 27 = .ok (.invokestatic 73, 3) := dk_184 0 73 (dk_at dksJ2_grow_2_1 3 rfl rfl)
theorem dJ2_grow_2_30 : decode cJ2_grow_2 30 = .ok (.istore_n 3, 1) := dk_62 (dk_at dksJ2_grow_2_1 6 rfl rfl)
theorem dJ2_grow_2_31 : decode cJ2_grow_2 31 = .ok (.aload_n 0, 1) := dk_42 (dk_at dksJ2_grow_2_1 7 rfl rfl)
theorem dJ2_grow_2_32 : decode cJ2_grow_2 32 = .ok (.aload_n 0, 1) := dk_42 (dk_at dksJ2_grow_2_1 8 rfl rfl)
theorem dJ2_grow_2_33 : decode cJ2_grow_2 33 = .ok (.getfield 9, 3) := dk_180 0 9 (dk_at dksJ2_grow_2_1 9 rfl rfl)
theorem dJ2_grow_2_36 : decode cJ2_grow_2 36 = .ok (.iload_n 3, 1) := dk_29 (dk_at dksJ2_grow_2_1 12 rfl rfl)
theorem dJ2_grow_2_37 : decode cJ2_grow_2 37 = .ok (.invokestatic 66, 3) := dk_184 0 66 (dk_at dksJ2_grow_2_1 13 rfl rfl)
theorem dJ2_grow_2_40 : decode cJ2_grow_2 40 = .ok (.dup_x1, 1) := dk_90 (dk_at dksJ2_grow_2_1 16 rfl rfl)
theorem dJ2_grow_2_41 : decode cJ2_grow_2 41 = .ok (.putfield 9, 3) := dk_181 0 9 (dk_at dksJ2_grow_2_1 17 rfl rfl)
theorem dJ2_grow_2_44 : decode cJ2_grow_2 44 = .ok (.areturn, 1) := dk_176 (dk_at dksJ2_grow_2_1 20 rfl rfl)
theorem dJ2_grow_2_45 : decode cJ2_grow_2 45 = .ok (.aload_n 0, 1) := dk_42 (dk_at dksJ2_grow_2_1 21 rfl rfl)
theorem dJ2_grow_2_46 : decode cJ2_grow_2 46 = .ok (.bipush 10, 2) := dk_16 10 (dk_at dksJ2_grow_2_1 22 rfl rfl)
theorem dJ2_grow_2_48 : decode cJ2_grow_2 48 = .ok (.iload_n 1, 1) := dk_27 (dk_at dksJ2_grow_2_2 0 rfl rfl)
theorem dJ2_grow_2_49 : decode cJ2_grow_2 49 = .ok (.invokestatic 79, 3) := dk_184 0 79 (dk_at dksJ2_grow_2_2 1 rfl rfl)
theorem dJ2_grow_2_52 : decode cJ2_grow_2 52 = .ok (.anewarray 7, 3) := dk_189 0 7 (dk_at dksJ2_grow_2_2 4 rfl rfl)
theorem dJ2_grow_2_55 : decode cJ2_grow_2 55 = .ok (.dup_x1, 1) := dk_90 (dk_at dksJ2_grow_2_2 7 rfl rfl)
theorem dJ2_grow_2_56 : decode cJ2_grow_2 56 = .ok (.putfield 9, 3) := dk_181 0 9 (dk_at dksJ2_grow_2_2 8 rfl rfl)
theorem dJ2_grow_2_59 : decode cJ2_grow_2 59 = .ok (.areturn, 1) := dk_176 (dk_at dksJ2_grow_2_2 11 rfl rfl)
abbrev cJ2_remove : ByteArray := prog_40_method_38_code
def yJ2_remove : MethodName := ⟨RJ2, "remove", "(Ljava/lang/Object;)Z"⟩
def dkwJ2_remove_3 : List UInt8 := [182, 0, 144, 4, 172]
abbrev dktJ2_remove_3 : List UInt8 := dkwJ2_remove_3 ++ []
def dkwJ2_remove_2 : List UInt8 := [21, 4, 50, 182, 0, 93, 153, 0, 6, 167, 0, 11, 132, 4, 1, 167, 255, 233, 3, 172, 42, 44, 21, 4]
abbrev dktJ2_remove_2 : List UInt8 := dkwJ2_remove_2 ++ dktJ2_remove_3
def dkwJ2_remove_1 : List UInt8 := [21, 4, 50, 199, 0, 6, 167, 0, 37, 132, 4, 1, 167, 255, 237, 21, 4, 29, 162, 0, 23, 43, 44]
abbrev dktJ2_remove_1 : List UInt8 := dkwJ2_remove_1 ++ dktJ2_remove_2
def dkwJ2_remove_0 : List UInt8 := [42, 180, 0, 9, 77, 42, 180, 0, 48, 62, 3, 54, 4, 43, 199, 0, 25, 21, 4, 29, 162, 0, 45, 44]
abbrev dktJ2_remove_0 : List UInt8 := dkwJ2_remove_0 ++ dktJ2_remove_1
theorem dksJ2_remove_0 : cJ2_remove.data.toList.drop 0 = dktJ2_remove_0 := by decide +kernel
theorem dksJ2_remove_1 : cJ2_remove.data.toList.drop 24 = dktJ2_remove_1 := dk_seg dksJ2_remove_0 24 rfl rfl
theorem dksJ2_remove_2 : cJ2_remove.data.toList.drop 47 = dktJ2_remove_2 := dk_seg dksJ2_remove_1 23 rfl rfl
theorem dksJ2_remove_3 : cJ2_remove.data.toList.drop 71 = dktJ2_remove_3 := dk_seg dksJ2_remove_2 24 rfl rfl
theorem dJ2_remove_0 : decode cJ2_remove 0 = .ok (.aload_n 0, 1) := dk_42 (dk_at dksJ2_remove_0 0 rfl rfl)
theorem dJ2_remove_1 : decode cJ2_remove 1 = .ok (.getfield 9, 3) := dk_180 0 9 (dk_at dksJ2_remove_0 1 rfl rfl)
theorem dJ2_remove_4 : decode cJ2_remove 4 = .ok (.astore_n 2, 1) := dk_77 (dk_at dksJ2_remove_0 4 rfl rfl)
theorem dJ2_remove_5 : decode cJ2_remove 5 = .ok (.aload_n 0, 1) := dk_42 (dk_at dksJ2_remove_0 5 rfl rfl)
theorem dJ2_remove_6 : decode cJ2_remove 6 = .ok (.getfield 48, 3) := dk_180 0 48 (dk_at dksJ2_remove_0 6 rfl rfl)
theorem dJ2_remove_9 : decode cJ2_remove 9 = .ok (.istore_n 3, 1) := dk_62 (dk_at dksJ2_remove_0 9 rfl rfl)
theorem dJ2_remove_10 : decode cJ2_remove 10 = .ok (.iconst 0, 1) := dk_3 (dk_at dksJ2_remove_0 10 rfl rfl)
theorem dJ2_remove_11 : decode cJ2_remove 11 = .ok (.istore 4, 2) := dk_54 4 (dk_at dksJ2_remove_0 11 rfl rfl)
theorem dJ2_remove_13 : decode cJ2_remove 13 = .ok (.aload_n 1, 1) := dk_43 (dk_at dksJ2_remove_0 13 rfl rfl)
theorem dJ2_remove_14 : decode cJ2_remove 14 = .ok (.ifnonnull 25, 3) := dk_199 0 25 (dk_at dksJ2_remove_0 14 rfl rfl)
theorem dJ2_remove_17 : decode cJ2_remove 17 = .ok (.iload 4, 2) := dk_21 4 (dk_at dksJ2_remove_0 17 rfl rfl)
theorem dJ2_remove_19 : decode cJ2_remove 19 = .ok (.iload_n 3, 1) := dk_29 (dk_at dksJ2_remove_0 19 rfl rfl)
theorem dJ2_remove_20 : decode cJ2_remove 20 = .ok (.if_icmp .ge 45, 3) := dk_162 0 45 (dk_at dksJ2_remove_0 20 rfl rfl)
theorem dJ2_remove_23 : decode cJ2_remove 23 = .ok (.aload_n 2, 1) := dk_44 (dk_at dksJ2_remove_0 23 rfl rfl)
theorem dJ2_remove_24 : decode cJ2_remove 24 = .ok (.iload 4, 2) := dk_21 4 (dk_at dksJ2_remove_1 0 rfl rfl)
theorem dJ2_remove_26 : decode cJ2_remove 26 = .ok (.aaload, 1) := dk_50 (dk_at dksJ2_remove_1 2 rfl rfl)
theorem dJ2_remove_27 : decode cJ2_remove 27 = .ok (.ifnonnull 6, 3) := dk_199 0 6 (dk_at dksJ2_remove_1 3 rfl rfl)
theorem dJ2_remove_30 : decode cJ2_remove 30 = .ok (.goto 37, 3) := dk_167 0 37 (dk_at dksJ2_remove_1 6 rfl rfl)
theorem dJ2_remove_33 : decode cJ2_remove 33 = .ok (.iinc 4 1, 3) := dk_132 4 1 (dk_at dksJ2_remove_1 9 rfl rfl)
theorem dJ2_remove_36 : decode cJ2_remove 36 = .ok (.goto (-19), 3) := dk_167 255 237 (dk_at dksJ2_remove_1 12 rfl rfl)
theorem dJ2_remove_39 : decode cJ2_remove 39 = .ok (.iload 4, 2) := dk_21 4 (dk_at dksJ2_remove_1 15 rfl rfl)
theorem dJ2_remove_41 : decode cJ2_remove 41 = .ok (.iload_n 3, 1) := dk_29 (dk_at dksJ2_remove_1 17 rfl rfl)
theorem dJ2_remove_42 : decode cJ2_remove 42 = .ok (.if_icmp .ge 23, 3) := dk_162 0 23 (dk_at dksJ2_remove_1 18 rfl rfl)
theorem dJ2_remove_45 : decode cJ2_remove 45 = .ok (.aload_n 1, 1) := dk_43 (dk_at dksJ2_remove_1 21 rfl rfl)
theorem dJ2_remove_46 : decode cJ2_remove 46 = .ok (.aload_n 2, 1) := dk_44 (dk_at dksJ2_remove_1 22 rfl rfl)
theorem dJ2_remove_47 : decode cJ2_remove 47 = .ok (.iload 4, 2) := dk_21 4 (dk_at dksJ2_remove_2 0 rfl rfl)
theorem dJ2_remove_49 : decode cJ2_remove 49 = .ok (.aaload, 1) := dk_50 (dk_at dksJ2_remove_2 2 rfl rfl)
theorem dJ2_remove_50 : decode cJ2_remove 50 = .ok (.invokevirtual 93, 3) := dk_182 0 93 (dk_at dksJ2_remove_2 3 rfl rfl)
theorem dJ2_remove_53 : decode cJ2_remove 53 = .ok (.ifCond .eq 6, 3) := dk_153 0 6 (dk_at dksJ2_remove_2 6 rfl rfl)
theorem dJ2_remove_56 : decode cJ2_remove 56 = .ok (.goto 11, 3) := dk_167 0 11 (dk_at dksJ2_remove_2 9 rfl rfl)
theorem dJ2_remove_59 : decode cJ2_remove 59 = .ok (.iinc 4 1, 3) := dk_132 4 1 (dk_at dksJ2_remove_2 12 rfl rfl)
theorem dJ2_remove_62 : decode cJ2_remove 62 = .ok (.goto (-23), 3) := dk_167 255 233 (dk_at dksJ2_remove_2 15 rfl rfl)
theorem dJ2_remove_65 : decode cJ2_remove 65 = .ok (.iconst 0, 1) := dk_3 (dk_at dksJ2_remove_2 18 rfl rfl)
theorem dJ2_remove_66 : decode cJ2_remove 66 = .ok (.ireturn, 1) := dk_172 (dk_at dksJ2_remove_2 19 rfl rfl)
theorem dJ2_remove_67 : decode cJ2_remove 67 = .ok (.aload_n 0, 1) := dk_42 (dk_at dksJ2_remove_2 20 rfl rfl)
theorem dJ2_remove_68 : decode cJ2_remove 68 = .ok (.aload_n 2, 1) := dk_44 (dk_at dksJ2_remove_2 21 rfl rfl)
theorem dJ2_remove_69 : decode cJ2_remove 69 = .ok (.iload 4, 2) := dk_21 4 (dk_at dksJ2_remove_2 22 rfl rfl)
theorem dJ2_remove_71 : decode cJ2_remove 71 = .ok (.invokevirtual 144, 3) := dk_182 0 144 (dk_at dksJ2_remove_3 0 rfl rfl)
theorem dJ2_remove_74 : decode cJ2_remove 74 = .ok (.iconst 1, 1) := dk_4 (dk_at dksJ2_remove_3 3 rfl rfl)
theorem dJ2_remove_75 : decode cJ2_remove 75 = .ok (.ireturn, 1) := dk_172 (dk_at dksJ2_remove_3 4 rfl rfl)
abbrev cJ2_fastRemove : ByteArray := prog_40_method_39_code
def yJ2_fastRemove : MethodName := ⟨RJ2, "fastRemove", "([Ljava/lang/Object;I)V"⟩
def dkwJ2_fastRemove_1 : List UInt8 := [4, 96, 43, 28, 29, 28, 100, 184, 0, 112, 43, 42, 29, 90, 181, 0, 48, 1, 83, 177]
abbrev dktJ2_fastRemove_1 : List UInt8 := dkwJ2_fastRemove_1 ++ []
def dkwJ2_fastRemove_0 : List UInt8 := [42, 89, 180, 0, 63, 4, 96, 181, 0, 63, 42, 180, 0, 48, 4, 100, 89, 62, 28, 164, 0, 15, 43, 28]
abbrev dktJ2_fastRemove_0 : List UInt8 := dkwJ2_fastRemove_0 ++ dktJ2_fastRemove_1
theorem dksJ2_fastRemove_0 : cJ2_fastRemove.data.toList.drop 0 = dktJ2_fastRemove_0 := by decide +kernel
theorem dksJ2_fastRemove_1 : cJ2_fastRemove.data.toList.drop 24 = dktJ2_fastRemove_1 := dk_seg dksJ2_fastRemove_0 24 rfl rfl
theorem dJ2_fastRemove_0 : decode cJ2_fastRemove 0 = .ok (.aload_n 0, 1) := dk_42 (dk_at dksJ2_fastRemove_0 0 rfl rfl)
theorem dJ2_fastRemove_1 : decode cJ2_fastRemove 1 = .ok (.dup, 1) := dk_89 (dk_at dksJ2_fastRemove_0 1 rfl rfl)
theorem dJ2_fastRemove_2 : decode cJ2_fastRemove 2 = .ok (.getfield 63, 3) := dk_180 0 63 (dk_at dksJ2_fastRemove_0 2 rfl rfl)
theorem dJ2_fastRemove_5 : decode cJ2_fastRemove 5 = .ok (.iconst 1, 1) := dk_4 (dk_at dksJ2_fastRemove_0 5 rfl rfl)
theorem dJ2_fastRemove_6 : decode cJ2_fastRemove 6 = .ok (.iadd, 1) := dk_96 (dk_at dksJ2_fastRemove_0 6 rfl rfl)
theorem dJ2_fastRemove_7 : decode cJ2_fastRemove 7 = .ok (.putfield 63, 3) := dk_181 0 63 (dk_at dksJ2_fastRemove_0 7 rfl rfl)
theorem dJ2_fastRemove_10 : decode cJ2_fastRemove 10 = .ok (.aload_n 0, 1) := dk_42 (dk_at dksJ2_fastRemove_0 10 rfl rfl)
theorem dJ2_fastRemove_11 : decode cJ2_fastRemove 11 = .ok (.getfield 48, 3) := dk_180 0 48 (dk_at dksJ2_fastRemove_0 11 rfl rfl)
theorem dJ2_fastRemove_14 : decode cJ2_fastRemove 14 = .ok (.iconst 1, 1) := dk_4 (dk_at dksJ2_fastRemove_0 14 rfl rfl)
theorem dJ2_fastRemove_15 : decode cJ2_fastRemove 15 = .ok (.isub, 1) := dk_100 (dk_at dksJ2_fastRemove_0 15 rfl rfl)
theorem dJ2_fastRemove_16 : decode cJ2_fastRemove 16 = .ok (.dup, 1) := dk_89 (dk_at dksJ2_fastRemove_0 16 rfl rfl)
theorem dJ2_fastRemove_17 : decode cJ2_fastRemove 17 = .ok (.istore_n 3, 1) := dk_62 (dk_at dksJ2_fastRemove_0 17 rfl rfl)
theorem dJ2_fastRemove_18 : decode cJ2_fastRemove 18 = .ok (.iload_n 2, 1) := dk_28 (dk_at dksJ2_fastRemove_0 18 rfl rfl)
theorem dJ2_fastRemove_19 : decode cJ2_fastRemove 19 = .ok (.if_icmp .le 15, 3) := dk_164 0 15 (dk_at dksJ2_fastRemove_0 19 rfl rfl)
theorem dJ2_fastRemove_22 : decode cJ2_fastRemove 22 = .ok (.aload_n 1, 1) := dk_43 (dk_at dksJ2_fastRemove_0 22 rfl rfl)
theorem dJ2_fastRemove_23 : decode cJ2_fastRemove 23 = .ok (.iload_n 2, 1) := dk_28 (dk_at dksJ2_fastRemove_0 23 rfl rfl)
theorem dJ2_fastRemove_24 : decode cJ2_fastRemove 24 = .ok (.iconst 1, 1) := dk_4 (dk_at dksJ2_fastRemove_1 0 rfl rfl)
theorem dJ2_fastRemove_25 : decode cJ2_fastRemove 25 = .ok (.iadd, 1) := dk_96 (dk_at dksJ2_fastRemove_1 1 rfl rfl)
theorem dJ2_fastRemove_26 : decode cJ2_fastRemove 26 = .ok (.aload_n 1, 1) := dk_43 (dk_at dksJ2_fastRemove_1 2 rfl rfl)
theorem dJ2_fastRemove_27 : decode cJ2_fastRemove 27 = .ok (.iload_n 2, 1) := dk_28 (dk_at dksJ2_fastRemove_1 3 rfl rfl)
theorem dJ2_fastRemove_28 : decode cJ2_fastRemove 28 = .ok (.iload_n 3, 1) := dk_29 (dk_at dksJ2_fastRemove_1 4 rfl rfl)
theorem dJ2_fastRemove_29 : decode cJ2_fastRemove 29 = .ok (.iload_n 2, 1) := dk_28 (dk_at dksJ2_fastRemove_1 5 rfl rfl)
theorem dJ2_fastRemove_30 : decode cJ2_fastRemove 30 = .ok (.isub, 1) := dk_100 (dk_at dksJ2_fastRemove_1 6 rfl rfl)
theorem dJ2_fastRemove_31 : decode cJ2_fastRemove 31 = .ok (.invokestatic 112, 3) := dk_184 0 112 (dk_at dksJ2_fastRemove_1 7 rfl rfl)
theorem dJ2_fastRemove_34 : decode cJ2_fastRemove 34 = .ok (.aload_n 1, 1) := dk_43 (dk_at dksJ2_fastRemove_1 10 rfl rfl)
theorem dJ2_fastRemove_35 : decode cJ2_fastRemove 35 = .ok (.aload_n 0, 1) := dk_42 (dk_at dksJ2_fastRemove_1 11 rfl rfl)
theorem dJ2_fastRemove_36 : decode cJ2_fastRemove 36 = .ok (.iload_n 3, 1) := dk_29 (dk_at dksJ2_fastRemove_1 12 rfl rfl)
theorem dJ2_fastRemove_37 : decode cJ2_fastRemove 37 = .ok (.dup_x1, 1) := dk_90 (dk_at dksJ2_fastRemove_1 13 rfl rfl)
theorem dJ2_fastRemove_38 : decode cJ2_fastRemove 38 = .ok (.putfield 48, 3) := dk_181 0 48 (dk_at dksJ2_fastRemove_1 14 rfl rfl)
theorem dJ2_fastRemove_41 : decode cJ2_fastRemove 41 = .ok (.aconst_null, 1) := dk_1 (dk_at dksJ2_fastRemove_1 17 rfl rfl)
theorem dJ2_fastRemove_42 : decode cJ2_fastRemove 42 = .ok (.aastore, 1) := dk_83 (dk_at dksJ2_fastRemove_1 18 rfl rfl)
theorem dJ2_fastRemove_43 : decode cJ2_fastRemove 43 = .ok (.return_, 1) := dk_177 (dk_at dksJ2_fastRemove_1 19 rfl rfl)
abbrev cJ2_remove_2 : ByteArray := prog_40_method_29_code
def yJ2_remove_2 : MethodName := ⟨RJ2, "remove", "(I)Ljava/lang/Object;"⟩
def dkwJ2_remove_2_1 : List UInt8 := [45, 176]
abbrev dktJ2_remove_2_1 : List UInt8 := dkwJ2_remove_2_1 ++ []
def dkwJ2_remove_2_0 : List UInt8 := [27, 42, 180, 0, 48, 184, 0, 118, 87, 42, 180, 0, 9, 77, 44, 27, 50, 78, 42, 44, 27, 182, 0, 144]
abbrev dktJ2_remove_2_0 : List UInt8 := dkwJ2_remove_2_0 ++ dktJ2_remove_2_1
theorem dksJ2_remove_2_0 : cJ2_remove_2.data.toList.drop 0 = dktJ2_remove_2_0 := by decide +kernel
theorem dksJ2_remove_2_1 : cJ2_remove_2.data.toList.drop 24 = dktJ2_remove_2_1 := dk_seg dksJ2_remove_2_0 24 rfl rfl
theorem dJ2_remove_2_0 : decode cJ2_remove_2 0 = .ok (.iload_n 1, 1) := dk_27 (dk_at dksJ2_remove_2_0 0 rfl rfl)
theorem dJ2_remove_2_1 : decode cJ2_remove_2 1 = .ok (.aload_n 0, 1) := dk_42 (dk_at dksJ2_remove_2_0 1 rfl rfl)
theorem dJ2_remove_2_2 : decode cJ2_remove_2 2 = .ok (.getfield 48, 3) := dk_180 0 48 (dk_at dksJ2_remove_2_0 2 rfl rfl)
theorem dJ2_remove_2_5 : decode cJ2_remove_2 5 = .ok (.invokestatic 118, 3) := dk_184 0 118 (dk_at dksJ2_remove_2_0 5 rfl rfl)
theorem dJ2_remove_2_8 : decode cJ2_remove_2 8 = .ok (.pop, 1) := dk_87 (dk_at dksJ2_remove_2_0 8 rfl rfl)
theorem dJ2_remove_2_9 : decode cJ2_remove_2 9 = .ok (.aload_n 0, 1) := dk_42 (dk_at dksJ2_remove_2_0 9 rfl rfl)
theorem dJ2_remove_2_10 : decode cJ2_remove_2 10 = .ok (.getfield 9, 3) := dk_180 0 9 (dk_at dksJ2_remove_2_0 10 rfl rfl)
theorem dJ2_remove_2_13 : decode cJ2_remove_2 13 = .ok (.astore_n 2, 1) := dk_77 (dk_at dksJ2_remove_2_0 13 rfl rfl)
theorem dJ2_remove_2_14 : decode cJ2_remove_2 14 = .ok (.aload_n 2, 1) := dk_44 (dk_at dksJ2_remove_2_0 14 rfl rfl)
theorem dJ2_remove_2_15 : decode cJ2_remove_2 15 = .ok (.iload_n 1, 1) := dk_27 (dk_at dksJ2_remove_2_0 15 rfl rfl)
theorem dJ2_remove_2_16 : decode cJ2_remove_2 16 = .ok (.aaload, 1) := dk_50 (dk_at dksJ2_remove_2_0 16 rfl rfl)
theorem dJ2_remove_2_17 : decode cJ2_remove_2 17 = .ok (.astore_n 3, 1) := dk_78 (dk_at dksJ2_remove_2_0 17 rfl rfl)
theorem dJ2_remove_2_18 : decode cJ2_remove_2 18 = .ok (.aload_n 0, 1) := dk_42 (dk_at dksJ2_remove_2_0 18 rfl rfl)
theorem dJ2_remove_2_19 : decode cJ2_remove_2 19 = .ok (.aload_n 2, 1) := dk_44 (dk_at dksJ2_remove_2_0 19 rfl rfl)
theorem dJ2_remove_2_20 : decode cJ2_remove_2 20 = .ok (.iload_n 1, 1) := dk_27 (dk_at dksJ2_remove_2_0 20 rfl rfl)
theorem dJ2_remove_2_21 : decode cJ2_remove_2 21 = .ok (.invokevirtual 144, 3) := dk_182 0 144 (dk_at dksJ2_remove_2_0 21 rfl rfl)
theorem dJ2_remove_2_24 : decode cJ2_remove_2 24 = .ok (.aload_n 3, 1) := dk_45 (dk_at dksJ2_remove_2_1 0 rfl rfl)
theorem dJ2_remove_2_25 : decode cJ2_remove_2 25 = .ok (.areturn, 1) := dk_176 (dk_at dksJ2_remove_2_1 1 rfl rfl)
abbrev cJ2_isEmpty : ByteArray := prog_40_method_9_code
def yJ2_isEmpty : MethodName := ⟨RJ2, "isEmpty", "()Z"⟩
def dkwJ2_isEmpty_0 : List UInt8 := [42, 180, 0, 48, 154, 0, 7, 4, 167, 0, 4, 3, 172]
abbrev dktJ2_isEmpty_0 : List UInt8 := dkwJ2_isEmpty_0 ++ []
theorem dksJ2_isEmpty_0 : cJ2_isEmpty.data.toList.drop 0 = dktJ2_isEmpty_0 := by decide +kernel
theorem dJ2_isEmpty_0 : decode cJ2_isEmpty 0 = .ok (.aload_n 0, 1) := dk_42 (dk_at dksJ2_isEmpty_0 0 rfl rfl)
theorem dJ2_isEmpty_1 : decode cJ2_isEmpty 1 = .ok (.getfield 48, 3) := dk_180 0 48 (dk_at dksJ2_isEmpty_0 1 rfl rfl)
theorem dJ2_isEmpty_4 : decode cJ2_isEmpty 4 = .ok (.ifCond .ne 7, 3) := dk_154 0 7 (dk_at dksJ2_isEmpty_0 4 rfl rfl)
theorem dJ2_isEmpty_7 : decode cJ2_isEmpty 7 = .ok (.iconst 1, 1) := dk_4 (dk_at dksJ2_isEmpty_0 7 rfl rfl)
theorem dJ2_isEmpty_8 : decode cJ2_isEmpty 8 = .ok (.goto 4, 3) := dk_167 0 4 (dk_at dksJ2_isEmpty_0 8 rfl rfl)
theorem dJ2_isEmpty_11 : decode cJ2_isEmpty 11 = .ok (.iconst 0, 1) := dk_3 (dk_at dksJ2_isEmpty_0 11 rfl rfl)
theorem dJ2_isEmpty_12 : decode cJ2_isEmpty 12 = .ok (.ireturn, 1) := dk_172 (dk_at dksJ2_isEmpty_0 12 rfl rfl)
theorem q76 : (Jvm.Cond.initialized "java/util/ArrayList") ∈ lw_all := lw_g (lw_at lw_m1 5 rfl) rfl
theorem q127 : (Jvm.Cond.instantiable "java/util/ArrayList" (3 : Nat)) ∈ lw_all := lw_g (lw_at lw_m1 56 rfl) rfl
theorem q129 : (Jvm.Cond.instanceMethod ({ cls := "java/util/ArrayList", name := "<init>", desc := "()V" } : Jvm.MethodName)) ∈ lw_all := lw_g (lw_at lw_m1 58 rfl) rfl
theorem q130 : (Jvm.Cond.code ({ cls := "java/util/ArrayList", name := "<init>", desc := "()V" } : Jvm.MethodName) prog_40_method_2_code (1 : Nat) (Option.none : Option Jvm.ClassFile.FieldType)) ∈ lw_all := lw_g (lw_at lw_m1 59 rfl) rfl
theorem q131 : (Jvm.Cond.methodLink "java/util/ArrayList" (1 : Nat) ({ cls := "java/util/AbstractList", name := "<init>", desc := "()V" } : Jvm.MethodName)) ∈ lw_all := lw_g (lw_at lw_m1 60 rfl) rfl
theorem q138 : (Jvm.Cond.fieldLink "java/util/ArrayList" (39 : Nat) "java/util/ArrayList" "DEFAULTCAPACITY_EMPTY_ELEMENTDATA" "[Ljava/lang/Object;") ∈ lw_all := lw_g (lw_at lw_m1 67 rfl) rfl
theorem q139 : (Jvm.Cond.laysStatic "java/util/ArrayList" "DEFAULTCAPACITY_EMPTY_ELEMENTDATA" "[Ljava/lang/Object;") ∈ lw_tbl := lw_at lw_m1 68 rfl
theorem q140 : (Jvm.Cond.fieldLink "java/util/ArrayList" (9 : Nat) "java/util/ArrayList" "elementData" "[Ljava/lang/Object;") ∈ lw_all := lw_g (lw_at lw_m1 69 rfl) rfl
theorem q141 : (Jvm.Cond.fieldLink "java/util/ArrayList" (48 : Nat) "java/util/ArrayList" "size" "I") ∈ lw_all := lw_g (lw_at lw_m1 70 rfl) rfl
theorem q143 : (Jvm.Cond.fieldLink "java/util/ArrayList" (63 : Nat) "java/util/ArrayList" "modCount" "I") ∈ lw_all := lw_g (lw_at lw_m1 72 rfl) rfl
theorem q144 : (Jvm.Cond.sameField "java/util/ArrayList" "java/util/AbstractList" "modCount" "I") ∈ lw_all := lw_g (lw_at lw_m1 73 rfl) rfl
theorem q145 : (Jvm.Cond.lays "java/util/ArrayList" "java/util/ArrayList" "elementData" "[Ljava/lang/Object;") ∈ lw_all := lw_g (lw_at lw_m1 74 rfl) rfl
theorem q146 : (Jvm.Cond.soleField "java/util/ArrayList" "elementData") ∈ lw_all := lw_g (lw_at lw_m1 75 rfl) rfl
theorem q147 : (Jvm.Cond.lays "java/util/ArrayList" "java/util/ArrayList" "size" "I") ∈ lw_all := lw_g (lw_at lw_m1 76 rfl) rfl
theorem q148 : (Jvm.Cond.soleField "java/util/ArrayList" "size") ∈ lw_all := lw_g (lw_at lw_m1 77 rfl) rfl
theorem q149 : (Jvm.Cond.lays "java/util/ArrayList" "java/util/AbstractList" "modCount" "I") ∈ lw_all := lw_g (lw_at lw_m1 78 rfl) rfl
theorem q151 : (Jvm.Cond.superclass "java/util/ArrayList" "java/util/AbstractList") ∈ lw_all := lw_g (lw_at lw_m1 80 rfl) rfl
theorem q901 : (Jvm.Cond.selects "java/util/ArrayList" ({ cls := "java/lang/Object", name := "getClass", desc := "()Ljava/lang/Class;" } : Jvm.MethodName) ({ cls := "java/lang/Object", name := "getClass", desc := "()Ljava/lang/Class;" } : Jvm.MethodName)) ∈ lw_all := lw_g (lw_at lw_m4 110 rfl) rfl
theorem q1137 : (Jvm.Cond.instanceMethod ({ cls := "java/util/ArrayList", name := "size", desc := "()I" } : Jvm.MethodName)) ∈ lw_all := lw_g (lw_at lw_m5 106 rfl) rfl
theorem q1138 : (Jvm.Cond.selects "java/util/ArrayList" ({ cls := "java/util/ArrayList", name := "size", desc := "()I" } : Jvm.MethodName) ({ cls := "java/util/ArrayList", name := "size", desc := "()I" } : Jvm.MethodName)) ∈ lw_all := lw_g (lw_at lw_m5 107 rfl) rfl
theorem q1139 : (Jvm.Cond.code ({ cls := "java/util/ArrayList", name := "size", desc := "()I" } : Jvm.MethodName) prog_40_method_8_code (1 : Nat) (Option.some Jvm.ClassFile.FieldType.int)) ∈ lw_all := lw_g (lw_at lw_m5 108 rfl) rfl
theorem q1176 : (Jvm.Cond.instanceMethod ({ cls := "java/util/ArrayList", name := "get", desc := "(I)Ljava/lang/Object;" } : Jvm.MethodName)) ∈ lw_all := lw_g (lw_at lw_m5 145 rfl) rfl
theorem q1177 : (Jvm.Cond.selects "java/util/ArrayList" ({ cls := "java/util/ArrayList", name := "get", desc := "(I)Ljava/lang/Object;" } : Jvm.MethodName) ({ cls := "java/util/ArrayList", name := "get", desc := "(I)Ljava/lang/Object;" } : Jvm.MethodName)) ∈ lw_all := lw_g (lw_at lw_m5 146 rfl) rfl
theorem q1178 : (Jvm.Cond.code ({ cls := "java/util/ArrayList", name := "get", desc := "(I)Ljava/lang/Object;" } : Jvm.MethodName) prog_40_method_20_code (2 : Nat) (Option.some (Jvm.ClassFile.FieldType.object "java/lang/Object"))) ∈ lw_all := lw_g (lw_at lw_m5 147 rfl) rfl
theorem q1179 : (Jvm.Cond.methodLink "java/util/ArrayList" (118 : Nat) ({ cls := "java/util/Objects", name := "checkIndex", desc := "(II)I" } : Jvm.MethodName)) ∈ lw_all := lw_g (lw_at lw_m5 148 rfl) rfl
theorem q1183 : (Jvm.Cond.methodLink "java/util/ArrayList" (123 : Nat) ({ cls := "java/util/ArrayList", name := "elementData", desc := "(I)Ljava/lang/Object;" } : Jvm.MethodName)) ∈ lw_all := lw_g (lw_at lw_m5 152 rfl) rfl
theorem q1184 : (Jvm.Cond.instanceMethod ({ cls := "java/util/ArrayList", name := "elementData", desc := "(I)Ljava/lang/Object;" } : Jvm.MethodName)) ∈ lw_all := lw_g (lw_at lw_m5 153 rfl) rfl
theorem q1185 : (Jvm.Cond.selects "java/util/ArrayList" ({ cls := "java/util/ArrayList", name := "elementData", desc := "(I)Ljava/lang/Object;" } : Jvm.MethodName) ({ cls := "java/util/ArrayList", name := "elementData", desc := "(I)Ljava/lang/Object;" } : Jvm.MethodName)) ∈ lw_all := lw_g (lw_at lw_m5 154 rfl) rfl
theorem q1186 : (Jvm.Cond.code ({ cls := "java/util/ArrayList", name := "elementData", desc := "(I)Ljava/lang/Object;" } : Jvm.MethodName) prog_40_method_18_code (2 : Nat) (Option.some (Jvm.ClassFile.FieldType.object "java/lang/Object"))) ∈ lw_all := lw_g (lw_at lw_m5 155 rfl) rfl
theorem q1211 : (Jvm.Cond.instanceMethod ({ cls := "java/util/ArrayList", name := "clear", desc := "()V" } : Jvm.MethodName)) ∈ lw_all := lw_g (lw_at lw_m5 180 rfl) rfl
theorem q1212 : (Jvm.Cond.selects "java/util/ArrayList" ({ cls := "java/util/ArrayList", name := "clear", desc := "()V" } : Jvm.MethodName) ({ cls := "java/util/ArrayList", name := "clear", desc := "()V" } : Jvm.MethodName)) ∈ lw_all := lw_g (lw_at lw_m5 181 rfl) rfl
theorem q1213 : (Jvm.Cond.code ({ cls := "java/util/ArrayList", name := "clear", desc := "()V" } : Jvm.MethodName) prog_40_method_40_code (4 : Nat) (Option.none : Option Jvm.ClassFile.FieldType)) ∈ lw_all := lw_g (lw_at lw_m5 182 rfl) rfl
theorem q1248 : (Jvm.Cond.instanceMethod ({ cls := "java/util/ArrayList", name := "add", desc := "(Ljava/lang/Object;)Z" } : Jvm.MethodName)) ∈ lw_all := lw_g (lw_at lw_m5 217 rfl) rfl
theorem q1249 : (Jvm.Cond.selects "java/util/ArrayList" ({ cls := "java/util/ArrayList", name := "add", desc := "(Ljava/lang/Object;)Z" } : Jvm.MethodName) ({ cls := "java/util/ArrayList", name := "add", desc := "(Ljava/lang/Object;)Z" } : Jvm.MethodName)) ∈ lw_all := lw_g (lw_at lw_m5 218 rfl) rfl
theorem q1250 : (Jvm.Cond.code ({ cls := "java/util/ArrayList", name := "add", desc := "(Ljava/lang/Object;)Z" } : Jvm.MethodName) prog_40_method_25_code (2 : Nat) (Option.some Jvm.ClassFile.FieldType.boolean)) ∈ lw_all := lw_g (lw_at lw_m5 219 rfl) rfl
theorem q1251 : (Jvm.Cond.methodLink "java/util/ArrayList" (131 : Nat) ({ cls := "java/util/ArrayList", name := "add", desc := "(Ljava/lang/Object;[Ljava/lang/Object;I)V" } : Jvm.MethodName)) ∈ lw_all := lw_g (lw_at lw_m5 220 rfl) rfl
theorem q1252 : (Jvm.Cond.privateMethod ({ cls := "java/util/ArrayList", name := "add", desc := "(Ljava/lang/Object;[Ljava/lang/Object;I)V" } : Jvm.MethodName)) ∈ lw_tbl := lw_at lw_m5 221 rfl
theorem q1253 : (Jvm.Cond.instanceMethod ({ cls := "java/util/ArrayList", name := "add", desc := "(Ljava/lang/Object;[Ljava/lang/Object;I)V" } : Jvm.MethodName)) ∈ lw_all := lw_g (lw_at lw_m5 222 rfl) rfl
theorem q1254 : (Jvm.Cond.code ({ cls := "java/util/ArrayList", name := "add", desc := "(Ljava/lang/Object;[Ljava/lang/Object;I)V" } : Jvm.MethodName) prog_40_method_24_code (4 : Nat) (Option.none : Option Jvm.ClassFile.FieldType)) ∈ lw_all := lw_g (lw_at lw_m5 223 rfl) rfl
theorem q1255 : (Jvm.Cond.methodLink "java/util/ArrayList" (129 : Nat) ({ cls := "java/util/ArrayList", name := "grow", desc := "()[Ljava/lang/Object;" } : Jvm.MethodName)) ∈ lw_all := lw_g (lw_at lw_m5 224 rfl) rfl
theorem q1256 : (Jvm.Cond.privateMethod ({ cls := "java/util/ArrayList", name := "grow", desc := "()[Ljava/lang/Object;" } : Jvm.MethodName)) ∈ lw_tbl := lw_at lw_m5 225 rfl
theorem q1257 : (Jvm.Cond.instanceMethod ({ cls := "java/util/ArrayList", name := "grow", desc := "()[Ljava/lang/Object;" } : Jvm.MethodName)) ∈ lw_all := lw_g (lw_at lw_m5 226 rfl) rfl
theorem q1258 : (Jvm.Cond.code ({ cls := "java/util/ArrayList", name := "grow", desc := "()[Ljava/lang/Object;" } : Jvm.MethodName) prog_40_method_7_code (1 : Nat) (Option.some (Jvm.ClassFile.FieldType.array (Jvm.ClassFile.FieldType.object "java/lang/Object")))) ∈ lw_all := lw_g (lw_at lw_m5 227 rfl) rfl
theorem q1259 : (Jvm.Cond.methodLink "java/util/ArrayList" (69 : Nat) ({ cls := "java/util/ArrayList", name := "grow", desc := "(I)[Ljava/lang/Object;" } : Jvm.MethodName)) ∈ lw_all := lw_g (lw_at lw_m5 228 rfl) rfl
theorem q1260 : (Jvm.Cond.privateMethod ({ cls := "java/util/ArrayList", name := "grow", desc := "(I)[Ljava/lang/Object;" } : Jvm.MethodName)) ∈ lw_tbl := lw_at lw_m5 229 rfl
theorem q1261 : (Jvm.Cond.instanceMethod ({ cls := "java/util/ArrayList", name := "grow", desc := "(I)[Ljava/lang/Object;" } : Jvm.MethodName)) ∈ lw_all := lw_g (lw_at lw_m5 230 rfl) rfl
theorem q1262 : (Jvm.Cond.code ({ cls := "java/util/ArrayList", name := "grow", desc := "(I)[Ljava/lang/Object;" } : Jvm.MethodName) prog_40_method_6_code (4 : Nat) (Option.some (Jvm.ClassFile.FieldType.array (Jvm.ClassFile.FieldType.object "java/lang/Object")))) ∈ lw_all := lw_g (lw_at lw_m5 231 rfl) rfl
theorem q1263 : (Jvm.Cond.methodLink "java/util/ArrayList" (73 : Nat) ({ cls := "jdk/internal/util/ArraysSupport", name := "newLength", desc := "(III)I" } : Jvm.MethodName)) ∈ lw_all := lw_g (lw_at lw_m5 232 rfl) rfl
theorem q1264 : (Jvm.Cond.methodLink "java/util/ArrayList" (66 : Nat) ({ cls := "java/util/Arrays", name := "copyOf", desc := "([Ljava/lang/Object;I)[Ljava/lang/Object;" } : Jvm.MethodName)) ∈ lw_all := lw_g (lw_at lw_m5 233 rfl) rfl
theorem q1274 : (Jvm.Cond.methodLink "java/util/ArrayList" (79 : Nat) ({ cls := "java/lang/Math", name := "max", desc := "(II)I" } : Jvm.MethodName)) ∈ lw_all := lw_g (lw_at lw_m6 3 rfl) rfl
theorem q1275 : (Jvm.Cond.classLink "java/util/ArrayList" (7 : Nat) "java/lang/Object") ∈ lw_all := lw_g (lw_at lw_m6 4 rfl) rfl
theorem q1444 : (Jvm.Cond.instanceMethod ({ cls := "java/util/ArrayList", name := "remove", desc := "(Ljava/lang/Object;)Z" } : Jvm.MethodName)) ∈ lw_all := lw_g (lw_at lw_m6 173 rfl) rfl
theorem q1445 : (Jvm.Cond.selects "java/util/ArrayList" ({ cls := "java/util/ArrayList", name := "remove", desc := "(Ljava/lang/Object;)Z" } : Jvm.MethodName) ({ cls := "java/util/ArrayList", name := "remove", desc := "(Ljava/lang/Object;)Z" } : Jvm.MethodName)) ∈ lw_all := lw_g (lw_at lw_m6 174 rfl) rfl
theorem q1446 : (Jvm.Cond.code ({ cls := "java/util/ArrayList", name := "remove", desc := "(Ljava/lang/Object;)Z" } : Jvm.MethodName) prog_40_method_38_code (5 : Nat) (Option.some Jvm.ClassFile.FieldType.boolean)) ∈ lw_all := lw_g (lw_at lw_m6 175 rfl) rfl
theorem q1447 : (Jvm.Cond.methodLink "java/util/ArrayList" (93 : Nat) ({ cls := "java/lang/Object", name := "equals", desc := "(Ljava/lang/Object;)Z" } : Jvm.MethodName)) ∈ lw_all := lw_g (lw_at lw_m6 176 rfl) rfl
theorem q1448 : (Jvm.Cond.methodLink "java/util/ArrayList" (144 : Nat) ({ cls := "java/util/ArrayList", name := "fastRemove", desc := "([Ljava/lang/Object;I)V" } : Jvm.MethodName)) ∈ lw_all := lw_g (lw_at lw_m6 177 rfl) rfl
theorem q1449 : (Jvm.Cond.privateMethod ({ cls := "java/util/ArrayList", name := "fastRemove", desc := "([Ljava/lang/Object;I)V" } : Jvm.MethodName)) ∈ lw_tbl := lw_at lw_m6 178 rfl
theorem q1450 : (Jvm.Cond.instanceMethod ({ cls := "java/util/ArrayList", name := "fastRemove", desc := "([Ljava/lang/Object;I)V" } : Jvm.MethodName)) ∈ lw_all := lw_g (lw_at lw_m6 179 rfl) rfl
theorem q1451 : (Jvm.Cond.code ({ cls := "java/util/ArrayList", name := "fastRemove", desc := "([Ljava/lang/Object;I)V" } : Jvm.MethodName) prog_40_method_39_code (4 : Nat) (Option.none : Option Jvm.ClassFile.FieldType)) ∈ lw_all := lw_g (lw_at lw_m6 180 rfl) rfl
theorem q1452 : (Jvm.Cond.methodLink "java/util/ArrayList" (112 : Nat) ({ cls := "java/lang/System", name := "arraycopy", desc := "(Ljava/lang/Object;ILjava/lang/Object;II)V" } : Jvm.MethodName)) ∈ lw_all := lw_g (lw_at lw_m6 181 rfl) rfl
theorem q1595 : (Jvm.Cond.instanceMethod ({ cls := "java/util/ArrayList", name := "remove", desc := "(I)Ljava/lang/Object;" } : Jvm.MethodName)) ∈ lw_all := lw_g (lw_at lw_m7 84 rfl) rfl
theorem q1596 : (Jvm.Cond.selects "java/util/ArrayList" ({ cls := "java/util/ArrayList", name := "remove", desc := "(I)Ljava/lang/Object;" } : Jvm.MethodName) ({ cls := "java/util/ArrayList", name := "remove", desc := "(I)Ljava/lang/Object;" } : Jvm.MethodName)) ∈ lw_all := lw_g (lw_at lw_m7 85 rfl) rfl
theorem q1597 : (Jvm.Cond.code ({ cls := "java/util/ArrayList", name := "remove", desc := "(I)Ljava/lang/Object;" } : Jvm.MethodName) prog_40_method_29_code (4 : Nat) (Option.some (Jvm.ClassFile.FieldType.object "java/lang/Object"))) ∈ lw_all := lw_g (lw_at lw_m7 86 rfl) rfl
theorem q1687 : (Jvm.Cond.instanceMethod ({ cls := "java/util/ArrayList", name := "isEmpty", desc := "()Z" } : Jvm.MethodName)) ∈ lw_all := lw_g (lw_at lw_m7 176 rfl) rfl
theorem q1688 : (Jvm.Cond.selects "java/util/ArrayList" ({ cls := "java/util/ArrayList", name := "isEmpty", desc := "()Z" } : Jvm.MethodName) ({ cls := "java/util/ArrayList", name := "isEmpty", desc := "()Z" } : Jvm.MethodName)) ∈ lw_all := lw_g (lw_at lw_m7 177 rfl) rfl
theorem q1689 : (Jvm.Cond.code ({ cls := "java/util/ArrayList", name := "isEmpty", desc := "()Z" } : Jvm.MethodName) prog_40_method_9_code (1 : Nat) (Option.some Jvm.ClassFile.FieldType.boolean)) ∈ lw_all := lw_g (lw_at lw_m7 178 rfl) rfl
theorem q2083 : (Jvm.Cond.castable "java/util/ArrayList" "java/lang/Object") ∈ lw_tbl := lw_at lw_m9 92 rfl
theorem in_J2 : ∀ w ∈ wsJ20, w ∈ lw_all := lw_in wsJ20 [149, 145, 147] (by decide +kernel) (by decide +kernel)

/-! java/util/AbstractMap -/
set_option maxRecDepth 100000
def RJ3 : String := "java/util/AbstractMap"
abbrev cJ3_init : ByteArray := prog_39_method_1_code
def yJ3_init : MethodName := ⟨RJ3, "<init>", "()V"⟩
theorem dJ3_init_0 : decode cJ3_init 0 = .ok (.aload_n 0, 1) := by decide +kernel
theorem dJ3_init_1 : decode cJ3_init 1 = .ok (.invokespecial 1, 3) := by decide +kernel
theorem dJ3_init_4 : decode cJ3_init 4 = .ok (.return_, 1) := by decide +kernel
theorem q77 : (Jvm.Cond.initialized "java/util/AbstractMap") ∈ lw_all := lw_g (lw_at lw_m1 6 rfl) rfl
theorem q158 : (Jvm.Cond.instanceMethod ({ cls := "java/util/AbstractMap", name := "<init>", desc := "()V" } : Jvm.MethodName)) ∈ lw_all := lw_g (lw_at lw_m1 87 rfl) rfl
theorem q159 : (Jvm.Cond.code ({ cls := "java/util/AbstractMap", name := "<init>", desc := "()V" } : Jvm.MethodName) prog_39_method_1_code (1 : Nat) (Option.none : Option Jvm.ClassFile.FieldType)) ∈ lw_all := lw_g (lw_at lw_m1 88 rfl) rfl
theorem q160 : (Jvm.Cond.methodLink "java/util/AbstractMap" (1 : Nat) ({ cls := "java/lang/Object", name := "<init>", desc := "()V" } : Jvm.MethodName)) ∈ lw_all := lw_g (lw_at lw_m1 89 rfl) rfl
theorem q180 : (Jvm.Cond.soleField "java/util/AbstractMap" "keySet") ∈ lw_all := lw_g (lw_at lw_m1 109 rfl) rfl
theorem q182 : (Jvm.Cond.soleField "java/util/AbstractMap" "values") ∈ lw_all := lw_g (lw_at lw_m1 111 rfl) rfl

/-! java/util/HashMap -/
set_option maxRecDepth 100000
def RJ4 : String := "java/util/HashMap"
def TJ4 : u_T := fun k => match k with
  | 0 => ("java/util/AbstractMap", "keySet", "Ljava/util/Set;", false)
  | 1 => ("java/util/AbstractMap", "values", "Ljava/util/Collection;", false)
  | 2 => ("java/util/HashMap", "table", "[Ljava/util/HashMap$Node;", false)
  | 3 => ("java/util/HashMap", "entrySet", "Ljava/util/Set;", false)
  | 4 => ("java/util/HashMap", "size", "I", false)
  | 5 => ("java/util/HashMap", "modCount", "I", false)
  | 6 => ("java/util/HashMap", "threshold", "I", false)
  | _ => ("java/util/HashMap", "loadFactor", "F", true)
def tyJ4 : Nat → FieldType := fun k => match k with
  | 0 => .object "java/util/Set"
  | 1 => .object "java/util/Collection"
  | 2 => .array (.object "java/util/HashMap$Node")
  | 3 => .object "java/util/Set"
  | 4 => .int
  | 5 => .int
  | 6 => .int
  | _ => .float
abbrev wsJ40 : List Cond := u_ws RJ4 TJ4 8
theorem nmJ4 : ∀ a, a < 8 → ∀ b, b < 8 → a ≠ b → (TJ4 a).2.1 ≠ (TJ4 b).2.1 := by decide +kernel
theorem tyJ4_ok : ∀ k, k < 8 → parseFieldDescriptor (TJ4 k).2.2.1 = some (tyJ4 k) := by decide +kernel
abbrev cJ4_init : ByteArray := prog_43_method_7_code
def yJ4_init : MethodName := ⟨RJ4, "<init>", "()V"⟩
def dkwJ4_init_0 : List UInt8 := [42, 183, 0, 43, 42, 18, 92, 181, 0, 81, 177]
abbrev dktJ4_init_0 : List UInt8 := dkwJ4_init_0 ++ []
theorem dksJ4_init_0 : cJ4_init.data.toList.drop 0 = dktJ4_init_0 := by decide +kernel
theorem dJ4_init_0 : decode cJ4_init 0 = .ok (.aload_n 0, 1) := dk_42 (dk_at dksJ4_init_0 0 rfl rfl)
theorem dJ4_init_1 : decode cJ4_init 1 = .ok (.invokespecial 43, 3) := dk_183 0 43 (dk_at dksJ4_init_0 1 rfl rfl)
theorem dJ4_init_4 : decode cJ4_init 4 = .ok (.aload_n 0, 1) := dk_42 (dk_at dksJ4_init_0 4 rfl rfl)
theorem dJ4_init_5 : decode cJ4_init 5 = .ok (.ldc 92, 2) := dk_18 92 (dk_at dksJ4_init_0 5 rfl rfl)
theorem dJ4_init_7 : decode cJ4_init 7 = .ok (.putfield 81, 3) := dk_181 0 81 (dk_at dksJ4_init_0 7 rfl rfl)
theorem dJ4_init_10 : decode cJ4_init 10 = .ok (.return_, 1) := dk_177 (dk_at dksJ4_init_0 10 rfl rfl)
abbrev cJ4_get : ByteArray := prog_43_method_12_code
def yJ4_get : MethodName := ⟨RJ4, "get", "(Ljava/lang/Object;)Ljava/lang/Object;"⟩
def dkwJ4_get_0 : List UInt8 := [42, 43, 182, 0, 158, 89, 77, 199, 0, 7, 1, 167, 0, 7, 44, 180, 0, 162, 176]
abbrev dktJ4_get_0 : List UInt8 := dkwJ4_get_0 ++ []
theorem dksJ4_get_0 : cJ4_get.data.toList.drop 0 = dktJ4_get_0 := by decide +kernel
theorem dJ4_get_0 : decode cJ4_get 0 = .ok (.aload_n 0, 1) := dk_42 (dk_at dksJ4_get_0 0 rfl rfl)
theorem dJ4_get_1 : decode cJ4_get 1 = .ok (.aload_n 1, 1) := dk_43 (dk_at dksJ4_get_0 1 rfl rfl)
theorem dJ4_get_2 : decode cJ4_get 2 = .ok (.invokevirtual 158, 3) := dk_182 0 158 (dk_at dksJ4_get_0 2 rfl rfl)
theorem dJ4_get_5 : decode cJ4_get 5 = .ok (.dup, 1) := dk_89 (dk_at dksJ4_get_0 5 rfl rfl)
theorem dJ4_get_6 : decode cJ4_get 6 = .ok (.astore_n 2, 1) := dk_77 (dk_at dksJ4_get_0 6 rfl rfl)
theorem dJ4_get_7 : decode cJ4_get 7 = .ok (.ifnonnull 7, 3) := dk_199 0 7 (dk_at dksJ4_get_0 7 rfl rfl)
theorem dJ4_get_10 : decode cJ4_get 10 = .ok (.aconst_null, 1) := dk_1 (dk_at dksJ4_get_0 10 rfl rfl)
theorem dJ4_get_11 : decode cJ4_get 11 = .ok (.goto 7, 3) := dk_167 0 7 (dk_at dksJ4_get_0 11 rfl rfl)
theorem dJ4_get_14 : decode cJ4_get 14 = .ok (.aload_n 2, 1) := dk_44 (dk_at dksJ4_get_0 14 rfl rfl)
theorem dJ4_get_15 : decode cJ4_get 15 = .ok (.getfield 162, 3) := dk_180 0 162 (dk_at dksJ4_get_0 15 rfl rfl)
theorem dJ4_get_18 : decode cJ4_get 18 = .ok (.areturn, 1) := dk_176 (dk_at dksJ4_get_0 18 rfl rfl)
abbrev cJ4_getNode : ByteArray := prog_43_method_13_code
def yJ4_getNode : MethodName := ⟨RJ4, "getNode", "(Ljava/lang/Object;)Ljava/util/HashMap$Node;"⟩
def dkwJ4_getNode_6 : List UInt8 := [89, 58, 4, 199, 255, 210, 1, 176]
abbrev dktJ4_getNode_6 : List UInt8 := dkwJ4_getNode_6 ++ []
def dkwJ4_getNode_5 : List UInt8 := [165, 0, 16, 43, 198, 0, 15, 43, 25, 7, 182, 0, 173, 153, 0, 6, 25, 4, 176, 25, 4, 180, 0, 177]
abbrev dktJ4_getNode_5 : List UInt8 := dkwJ4_getNode_5 ++ dktJ4_getNode_6
def dkwJ4_getNode_4 : List UInt8 := [43, 182, 0, 182, 176, 25, 4, 180, 0, 168, 21, 6, 160, 0, 31, 25, 4, 180, 0, 170, 89, 58, 7, 43]
abbrev dktJ4_getNode_4 : List UInt8 := dkwJ4_getNode_4 ++ dktJ4_getNode_5
def dkwJ4_getNode_3 : List UInt8 := [176, 45, 180, 0, 177, 89, 58, 4, 198, 0, 70, 45, 193, 0, 180, 153, 0, 14, 45, 192, 0, 180, 21, 6]
abbrev dktJ4_getNode_3 : List UInt8 := dkwJ4_getNode_3 ++ dktJ4_getNode_4
def dkwJ4_getNode_2 : List UInt8 := [180, 0, 170, 89, 58, 7, 43, 165, 0, 16, 43, 198, 0, 14, 43, 25, 7, 182, 0, 173, 153, 0, 5, 45]
abbrev dktJ4_getNode_2 : List UInt8 := dkwJ4_getNode_2 ++ dktJ4_getNode_3
def dkwJ4_getNode_1 : List UInt8 := [184, 0, 149, 89, 54, 6, 126, 50, 89, 78, 198, 0, 115, 45, 180, 0, 168, 21, 6, 160, 0, 29, 45]
abbrev dktJ4_getNode_1 : List UInt8 := dkwJ4_getNode_1 ++ dktJ4_getNode_2
def dkwJ4_getNode_0 : List UInt8 := [42, 180, 0, 105, 89, 77, 198, 0, 142, 44, 190, 89, 54, 5, 158, 0, 134, 44, 21, 5, 4, 100, 43]
abbrev dktJ4_getNode_0 : List UInt8 := dkwJ4_getNode_0 ++ dktJ4_getNode_1
theorem dksJ4_getNode_0 : cJ4_getNode.data.toList.drop 0 = dktJ4_getNode_0 := by decide +kernel
theorem dksJ4_getNode_1 : cJ4_getNode.data.toList.drop 23 = dktJ4_getNode_1 := dk_seg dksJ4_getNode_0 23 rfl rfl
theorem dksJ4_getNode_2 : cJ4_getNode.data.toList.drop 46 = dktJ4_getNode_2 := dk_seg dksJ4_getNode_1 23 rfl rfl
theorem dksJ4_getNode_3 : cJ4_getNode.data.toList.drop 70 = dktJ4_getNode_3 := dk_seg dksJ4_getNode_2 24 rfl rfl
theorem dksJ4_getNode_4 : cJ4_getNode.data.toList.drop 94 = dktJ4_getNode_4 := dk_seg dksJ4_getNode_3 24 rfl rfl
theorem dksJ4_getNode_5 : cJ4_getNode.data.toList.drop 118 = dktJ4_getNode_5 := dk_seg dksJ4_getNode_4 24 rfl rfl
theorem dksJ4_getNode_6 : cJ4_getNode.data.toList.drop 142 = dktJ4_getNode_6 := dk_seg dksJ4_getNode_5 24 rfl rfl
theorem dJ4_getNode_0 : decode cJ4_getNode 0 = .ok (.aload_n 0, 1) := dk_42 (dk_at dksJ4_getNode_0 0 rfl rfl)
theorem dJ4_getNode_1 : decode cJ4_getNode 1 = .ok (.getfield 105, 3) := dk_180 0 105 (dk_at dksJ4_getNode_0 1 rfl rfl)
theorem dJ4_getNode_4 : decode cJ4_getNode 4 = .ok (.dup, 1) := dk_89 (dk_at dksJ4_getNode_0 4 rfl rfl)
theorem dJ4_getNode_5 : decode cJ4_getNode 5 = .ok (.astore_n 2, 1) := dk_77 (dk_at dksJ4_getNode_0 5 rfl rfl)
theorem dJ4_getNode_6 : decode cJ4_getNode 6 = .ok (.ifnull 142, 3) := dk_198 0 142 (dk_at dksJ4_getNode_0 6 rfl rfl)
theorem dJ4_getNode_9 : decode cJ4_getNode 9 = .ok (.aload_n 2, 1) := dk_44 (dk_at dksJ4_getNode_0 9 rfl rfl)
theorem dJ4_getNode_10 : decode cJ4_getNode 10 = .ok (.arraylength, 1) := dk_190 (dk_at dksJ4_getNode_0 10 rfl rfl)
theorem dJ4_getNode_11 : decode cJ4_getNode 11 = .ok (.dup, 1) := dk_89 (dk_at dksJ4_getNode_0 11 rfl rfl)
theorem dJ4_getNode_12 : decode cJ4_getNode 12 = .ok (.istore 5, 2) := dk_54 5 (dk_at dksJ4_getNode_0 12 rfl rfl)
theorem dJ4_getNode_14 : decode cJ4_getNode 14 = .ok (.ifCond .le 134, 3) := dk_158 0 134 (dk_at dksJ4_getNode_0 14 rfl rfl)
theorem dJ4_getNode_17 : decode cJ4_getNode 17 = .ok (.aload_n 2, 1) := dk_44 (dk_at dksJ4_getNode_0 17 rfl rfl)
theorem dJ4_getNode_18 : decode cJ4_getNode 18 = .ok (.iload 5, 2) := dk_21 5 (dk_at dksJ4_getNode_0 18 rfl rfl)
theorem dJ4_getNode_20 : decode cJ4_getNode 20 = .ok (.iconst 1, 1) := dk_4 (dk_at dksJ4_getNode_0 20 rfl rfl)
theorem dJ4_getNode_21 : decode cJ4_getNode 21 = .ok (.isub, 1) := dk_100 (dk_at dksJ4_getNode_0 21 rfl rfl)
theorem dJ4_getNode_22 : decode cJ4_getNode 22 = .ok (.aload_n 1, 1) := dk_43 (dk_at dksJ4_getNode_0 22 rfl rfl)
theorem dJ4_getNode_23 : decode cJ4_getNode 23 = .ok (.invokestatic 149, 3) := dk_184 0 149 (dk_at dksJ4_getNode_1 0 rfl rfl)
theorem dJ4_getNode_26 : decode cJ4_getNode 26 = .ok (.dup, 1) := dk_89 (dk_at dksJ4_getNode_1 3 rfl rfl)
theorem dJ4_getNode_27 : decode cJ4_getNode 27 = .ok (.istore 6, 2) := dk_54 6 (dk_at dksJ4_getNode_1 4 rfl rfl)
theorem dJ4_getNode_29 : decode cJ4_getNode 29 = .ok (.iand, 1) := dk_126 (dk_at dksJ4_getNode_1 6 rfl rfl)
theorem dJ4_getNode_30 : decode cJ4_getNode 30 = .ok (.aaload, 1) := dk_50 (dk_at dksJ4_getNode_1 7 rfl rfl)
theorem dJ4_getNode_31 : decode cJ4_getNode 31 = .ok (.dup, 1) := dk_89 (dk_at dksJ4_getNode_1 8 rfl rfl)
theorem dJ4_getNode_32 : decode cJ4_getNode 32 = .ok (.astore_n 3, 1) := dk_78 (dk_at dksJ4_getNode_1 9 rfl rfl)
theorem dJ4_getNode_33 : decode cJ4_getNode 33 = .ok (.ifnull 115, 3) := dk_198 0 115 (dk_at dksJ4_getNode_1 10 rfl rfl)
theorem dJ4_getNode_36 : decode cJ4_getNode 36 = .ok (.aload_n 3, 1) := dk_45 (dk_at dksJ4_getNode_1 13 rfl rfl)
theorem dJ4_getNode_37 : decode cJ4_getNode 37 = .ok (.getfield 168, 3) := dk_180 0 168 (dk_at dksJ4_getNode_1 14 rfl rfl)
theorem dJ4_getNode_40 : decode cJ4_getNode 40 = .ok (.iload 6, 2) := dk_21 6 (dk_at dksJ4_getNode_1 17 rfl rfl)
theorem dJ4_getNode_42 : decode cJ4_getNode 42 = .ok (.if_icmp .ne 29, 3) := dk_160 0 29 (dk_at dksJ4_getNode_1 19 rfl rfl)
theorem dJ4_getNode_45 : decode cJ4_getNode 45 = .ok (.aload_n 3, 1) := dk_45 (dk_at dksJ4_getNode_1 22 rfl rfl)
theorem dJ4_getNode_46 : decode cJ4_getNode 46 = .ok (.getfield 170, 3) := dk_180 0 170 (dk_at dksJ4_getNode_2 0 rfl rfl)
theorem dJ4_getNode_49 : decode cJ4_getNode 49 = .ok (.dup, 1) := dk_89 (dk_at dksJ4_getNode_2 3 rfl rfl)
theorem dJ4_getNode_50 : decode cJ4_getNode 50 = .ok (.astore 7, 2) := dk_58 7 (dk_at dksJ4_getNode_2 4 rfl rfl)
theorem dJ4_getNode_52 : decode cJ4_getNode 52 = .ok (.aload_n 1, 1) := dk_43 (dk_at dksJ4_getNode_2 6 rfl rfl)
theorem dJ4_getNode_53 : decode cJ4_getNode 53 = .ok (.if_acmp .eq 16, 3) := dk_165 0 16 (dk_at dksJ4_getNode_2 7 rfl rfl)
theorem dJ4_getNode_56 : decode cJ4_getNode 56 = .ok (.aload_n 1, 1) := dk_43 (dk_at dksJ4_getNode_2 10 rfl rfl)
theorem dJ4_getNode_57 : decode cJ4_getNode 57 = .ok (.ifnull 14, 3) := dk_198 0 14 (dk_at dksJ4_getNode_2 11 rfl rfl)
theorem dJ4_getNode_60 : decode cJ4_getNode 60 = .ok (.aload_n 1, 1) := dk_43 (dk_at dksJ4_getNode_2 14 rfl rfl)
theorem dJ4_getNode_61 : decode cJ4_getNode 61 = .ok (.aload 7, 2) := dk_25 7 (dk_at dksJ4_getNode_2 15 rfl rfl)
theorem dJ4_getNode_63 : decode cJ4_getNode 63 = .ok (.invokevirtual 173, 3) := dk_182 0 173 (dk_at dksJ4_getNode_2 17 rfl rfl)
theorem dJ4_getNode_66 : decode cJ4_getNode 66 = .ok (.ifCond .eq 5, 3) := dk_153 0 5 (dk_at dksJ4_getNode_2 20 rfl rfl)
theorem dJ4_getNode_69 : decode cJ4_getNode 69 = .ok (.aload_n 3, 1) := dk_45 (dk_at dksJ4_getNode_2 23 rfl rfl)
theorem dJ4_getNode_70 : decode cJ4_getNode 70 = .ok (.areturn, 1) := dk_176 (dk_at dksJ4_getNode_3 0 rfl rfl)
theorem dJ4_getNode_71 : decode cJ4_getNode 71 = .ok (.aload_n 3, 1) := dk_45 (dk_at dksJ4_getNode_3 1 rfl rfl)
theorem dJ4_getNode_72 : decode cJ4_getNode 72 = .ok (.getfield 177, 3) := dk_180 0 177 (dk_at dksJ4_getNode_3 2 rfl rfl)
theorem dJ4_getNode_75 : decode cJ4_getNode 75 = .ok (.dup, 1) := dk_89 (dk_at dksJ4_getNode_3 5 rfl rfl)
theorem dJ4_getNode_76 : decode cJ4_getNode 76 = .ok (.astore 4, 2) := dk_58 4 (dk_at dksJ4_getNode_3 6 rfl rfl)
theorem dJ4_getNode_78 : decode cJ4_getNode 78 = .ok (.ifnull 70, 3) := dk_198 0 70 (dk_at dksJ4_getNode_3 8 rfl rfl)
theorem dJ4_getNode_81 : decode cJ4_getNode 81 = .ok (.aload_n 3, 1) := dk_45 (dk_at dksJ4_getNode_3 11 rfl rfl)
theorem dJ4_getNode_82 : decode cJ4_getNode 82 = .ok (.instanceof 180, 3) := dk_193 0 180 (dk_at dksJ4_getNode_3 12 rfl rfl)
theorem dJ4_getNode_85 : decode cJ4_getNode 85 = .ok (.ifCond .eq 14, 3) := dk_153 0 14 (dk_at dksJ4_getNode_3 15 rfl rfl)
theorem dJ4_getNode_88 : decode cJ4_getNode 88 = .ok (.aload_n 3, 1) := dk_45 (dk_at dksJ4_getNode_3 18 rfl rfl)
theorem dJ4_getNode_89 : decode cJ4_getNode 89 = .ok (.checkcast 180, 3) := dk_192 0 180 (dk_at dksJ4_getNode_3 19 rfl rfl)
theorem dJ4_getNode_92 : decode cJ4_getNode 92 = .ok (.iload 6, 2) := dk_21 6 (dk_at dksJ4_getNode_3 22 rfl rfl)
theorem dJ4_getNode_94 : decode cJ4_getNode 94 = .ok (.aload_n 1, 1) := dk_43 (dk_at dksJ4_getNode_4 0 rfl rfl)
theorem dJ4_getNode_95 : decode cJ4_getNode 95 = .ok (.invokevirtual 182, 3) := dk_182 0 182 (dk_at dksJ4_getNode_4 1 rfl rfl)
theorem dJ4_getNode_98 : decode cJ4_getNode 98 = .ok (.areturn, 1) := dk_176 (dk_at dksJ4_getNode_4 4 rfl rfl)
theorem dJ4_getNode_99 : decode cJ4_getNode 99 = .ok (.aload 4, 2) := dk_25 4 (dk_at dksJ4_getNode_4 5 rfl rfl)
theorem dJ4_getNode_101 : decode cJ4_getNode 101 = .ok (.getfield 168, 3) := dk_180 0 168 (dk_at dksJ4_getNode_4 7 rfl rfl)
theorem dJ4_getNode_104 : decode cJ4_getNode 104 = .ok (.iload 6, 2) := dk_21 6 (dk_at dksJ4_getNode_4 10 rfl rfl)
theorem dJ4_getNode_106 : decode cJ4_getNode 106 = .ok (.if_icmp .ne 31, 3) := dk_160 0 31 (dk_at dksJ4_getNode_4 12 rfl rfl)
theorem dJ4_getNode_109 : decode cJ4_getNode 109 = .ok (.aload 4, 2) := dk_25 4 (dk_at dksJ4_getNode_4 15 rfl rfl)
theorem dJ4_getNode_111 : decode cJ4_getNode 111 = .ok (.getfield 170, 3) := dk_180 0 170 (dk_at dksJ4_getNode_4 17 rfl rfl)
theorem dJ4_getNode_114 : decode cJ4_getNode 114 = .ok (.dup, 1) := dk_89 (dk_at dksJ4_getNode_4 20 rfl rfl)
theorem dJ4_getNode_115 : decode cJ4_getNode 115 = .ok (.astore 7, 2) := dk_58 7 (dk_at dksJ4_getNode_4 21 rfl rfl)
theorem dJ4_getNode_117 : decode cJ4_getNode 117 = .ok (.aload_n 1, 1) := dk_43 (dk_at dksJ4_getNode_4 23 rfl rfl)
theorem dJ4_getNode_118 : decode cJ4_getNode 118 = .ok (.if_acmp .eq 16, 3) := dk_165 0 16 (dk_at dksJ4_getNode_5 0 rfl rfl)
theorem dJ4_getNode_121 : decode cJ4_getNode 121 = .ok (.aload_n 1, 1) := dk_43 (dk_at dksJ4_getNode_5 3 rfl rfl)
theorem dJ4_getNode_122 : decode cJ4_getNode 122 = .ok (.ifnull 15, 3) := dk_198 0 15 (dk_at dksJ4_getNode_5 4 rfl rfl)
theorem dJ4_getNode_125 : decode cJ4_getNode 125 = .ok (.aload_n 1, 1) := dk_43 (dk_at dksJ4_getNode_5 7 rfl rfl)
theorem dJ4_getNode_126 : decode cJ4_getNode 126 = .ok (.aload 7, 2) := dk_25 7 (dk_at dksJ4_getNode_5 8 rfl rfl)
theorem dJ4_getNode_128 : decode cJ4_getNode 128 = .ok (.invokevirtual 173, 3) := dk_182 0 173 (dk_at dksJ4_getNode_5 10 rfl rfl)
theorem dJ4_getNode_131 : decode cJ4_getNode 131 = .ok (.ifCond .eq 6, 3) := dk_153 0 6 (dk_at dksJ4_getNode_5 13 rfl rfl)
theorem dJ4_getNode_134 : decode cJ4_getNode 134 = .ok (.aload 4, 2) := dk_25 4 (dk_at dksJ4_getNode_5 16 rfl rfl)
theorem dJ4_getNode_136 : decode cJ4_getNode 136 = .ok (.areturn, 1) := dk_176 (dk_at dksJ4_getNode_5 18 rfl rfl)
theorem dJ4_getNode_137 : decode cJ4_getNode 137 = .ok (.aload 4, 2) := dk_25 4 (dk_at dksJ4_getNode_5 19 rfl rfl)
theorem dJ4_getNode_139 : decode cJ4_getNode 139 = .ok (.getfield 177, 3) := dk_180 0 177 (dk_at dksJ4_getNode_5 21 rfl rfl)
theorem dJ4_getNode_142 : decode cJ4_getNode 142 = .ok (.dup, 1) := dk_89 (dk_at dksJ4_getNode_6 0 rfl rfl)
theorem dJ4_getNode_143 : decode cJ4_getNode 143 = .ok (.astore 4, 2) := dk_58 4 (dk_at dksJ4_getNode_6 1 rfl rfl)
theorem dJ4_getNode_145 : decode cJ4_getNode 145 = .ok (.ifnonnull (-46), 3) := dk_199 255 210 (dk_at dksJ4_getNode_6 3 rfl rfl)
theorem dJ4_getNode_148 : decode cJ4_getNode 148 = .ok (.aconst_null, 1) := dk_1 (dk_at dksJ4_getNode_6 6 rfl rfl)
theorem dJ4_getNode_149 : decode cJ4_getNode 149 = .ok (.areturn, 1) := dk_176 (dk_at dksJ4_getNode_6 7 rfl rfl)
abbrev cJ4_hash : ByteArray := prog_43_method_1_code
def yJ4_hash : MethodName := ⟨RJ4, "hash", "(Ljava/lang/Object;)I"⟩
def dkwJ4_hash_0 : List UInt8 := [42, 199, 0, 7, 3, 167, 0, 14, 42, 182, 0, 1, 89, 60, 27, 16, 16, 124, 130, 172]
abbrev dktJ4_hash_0 : List UInt8 := dkwJ4_hash_0 ++ []
theorem dksJ4_hash_0 : cJ4_hash.data.toList.drop 0 = dktJ4_hash_0 := by decide +kernel
theorem dJ4_hash_0 : decode cJ4_hash 0 = .ok (.aload_n 0, 1) := dk_42 (dk_at dksJ4_hash_0 0 rfl rfl)
theorem dJ4_hash_1 : decode cJ4_hash 1 = .ok (.ifnonnull 7, 3) := dk_199 0 7 (dk_at dksJ4_hash_0 1 rfl rfl)
theorem dJ4_hash_4 : decode cJ4_hash 4 = .ok (.iconst 0, 1) := dk_3 (dk_at dksJ4_hash_0 4 rfl rfl)
theorem dJ4_hash_5 : decode cJ4_hash 5 = .ok (.goto 14, 3) := dk_167 0 14 (dk_at dksJ4_hash_0 5 rfl rfl)
theorem dJ4_hash_8 : decode cJ4_hash 8 = .ok (.aload_n 0, 1) := dk_42 (dk_at dksJ4_hash_0 8 rfl rfl)
theorem dJ4_hash_9 : decode cJ4_hash 9 = .ok (.invokevirtual 1, 3) := dk_182 0 1 (dk_at dksJ4_hash_0 9 rfl rfl)
theorem dJ4_hash_12 : decode cJ4_hash 12 = .ok (.dup, 1) := dk_89 (dk_at dksJ4_hash_0 12 rfl rfl)
theorem dJ4_hash_13 : decode cJ4_hash 13 = .ok (.istore_n 1, 1) := dk_60 (dk_at dksJ4_hash_0 13 rfl rfl)
theorem dJ4_hash_14 : decode cJ4_hash 14 = .ok (.iload_n 1, 1) := dk_27 (dk_at dksJ4_hash_0 14 rfl rfl)
theorem dJ4_hash_15 : decode cJ4_hash 15 = .ok (.bipush 16, 2) := dk_16 16 (dk_at dksJ4_hash_0 15 rfl rfl)
theorem dJ4_hash_17 : decode cJ4_hash 17 = .ok (.iushr, 1) := dk_124 (dk_at dksJ4_hash_0 17 rfl rfl)
theorem dJ4_hash_18 : decode cJ4_hash 18 = .ok (.ixor, 1) := dk_130 (dk_at dksJ4_hash_0 18 rfl rfl)
theorem dJ4_hash_19 : decode cJ4_hash 19 = .ok (.ireturn, 1) := dk_172 (dk_at dksJ4_hash_0 19 rfl rfl)
abbrev cJ4_clear : ByteArray := prog_43_method_22_code
def yJ4_clear : MethodName := ⟨RJ4, "clear", "()V"⟩
def dkwJ4_clear_2 : List UInt8 := [167, 255, 243, 177]
abbrev dktJ4_clear_2 : List UInt8 := dkwJ4_clear_2 ++ []
def dkwJ4_clear_1 : List UInt8 := [158, 0, 26, 42, 3, 181, 0, 156, 3, 61, 28, 43, 190, 162, 0, 13, 43, 28, 1, 83, 132, 2, 1]
abbrev dktJ4_clear_1 : List UInt8 := dkwJ4_clear_1 ++ dktJ4_clear_2
def dkwJ4_clear_0 : List UInt8 := [42, 89, 180, 0, 202, 4, 96, 181, 0, 202, 42, 180, 0, 105, 89, 76, 198, 0, 33, 42, 180, 0, 156]
abbrev dktJ4_clear_0 : List UInt8 := dkwJ4_clear_0 ++ dktJ4_clear_1
theorem dksJ4_clear_0 : cJ4_clear.data.toList.drop 0 = dktJ4_clear_0 := by decide +kernel
theorem dksJ4_clear_1 : cJ4_clear.data.toList.drop 23 = dktJ4_clear_1 := dk_seg dksJ4_clear_0 23 rfl rfl
theorem dksJ4_clear_2 : cJ4_clear.data.toList.drop 46 = dktJ4_clear_2 := dk_seg dksJ4_clear_1 23 rfl rfl
theorem dJ4_clear_0 : decode cJ4_clear 0 = .ok (.aload_n 0, 1) := dk_42 (dk_at dksJ4_clear_0 0 rfl rfl)
theorem dJ4_clear_1 : decode cJ4_clear 1 = .ok (.dup, 1) := dk_89 (dk_at dksJ4_clear_0 1 rfl rfl)
theorem dJ4_clear_2 : decode cJ4_clear 2 = .ok (.getfield 202, 3) := dk_180 0 202 (dk_at dksJ4_clear_0 2 rfl rfl)
theorem dJ4_clear_5 : decode cJ4_clear 5 = .ok (.iconst 1, 1) := dk_4 (dk_at dksJ4_clear_0 5 rfl rfl)
theorem dJ4_clear_6 : decode cJ4_clear 6 = .ok (.iadd, 1) := dk_96 (dk_at dksJ4_clear_0 6 rfl rfl)
theorem dJ4_clear_7 : decode cJ4_clear 7 = .ok (.putfield 202, 3) := dk_181 0 202 (dk_at dksJ4_clear_0 7 rfl rfl)
theorem dJ4_clear_10 : decode cJ4_clear 10 = .ok (.aload_n 0, 1) := dk_42 (dk_at dksJ4_clear_0 10 rfl rfl)
theorem dJ4_clear_11 : decode cJ4_clear 11 = .ok (.getfield 105, 3) := dk_180 0 105 (dk_at dksJ4_clear_0 11 rfl rfl)
theorem dJ4_clear_14 : decode cJ4_clear 14 = .ok (.dup, 1) := dk_89 (dk_at dksJ4_clear_0 14 rfl rfl)
theorem dJ4_clear_15 : decode cJ4_clear 15 = .ok (.astore_n 1, 1) := dk_76 (dk_at dksJ4_clear_0 15 rfl rfl)
theorem dJ4_clear_16 : decode cJ4_clear 16 = .ok (.ifnull 33, 3) := dk_198 0 33 (dk_at dksJ4_clear_0 16 rfl rfl)
theorem dJ4_clear_19 : decode cJ4_clear 19 = .ok (.aload_n 0, 1) := dk_42 (dk_at dksJ4_clear_0 19 rfl rfl)
theorem dJ4_clear_20 : decode cJ4_clear 20 = .ok (.getfield 156, 3) := dk_180 0 156 (dk_at dksJ4_clear_0 20 rfl rfl)
theorem dJ4_clear_23 : decode cJ4_clear 23 = .ok (.ifCond .le 26, 3) := dk_158 0 26 (dk_at dksJ4_clear_1 0 rfl rfl)
theorem dJ4_clear_26 : decode cJ4_clear 26 = .ok (.aload_n 0, 1) := dk_42 (dk_at dksJ4_clear_1 3 rfl rfl)
theorem dJ4_clear_27 : decode cJ4_clear 27 = .ok (.iconst 0, 1) := dk_3 (dk_at dksJ4_clear_1 4 rfl rfl)
theorem dJ4_clear_28 : decode cJ4_clear 28 = .ok (.putfield 156, 3) := dk_181 0 156 (dk_at dksJ4_clear_1 5 rfl rfl)
theorem dJ4_clear_31 : decode cJ4_clear 31 = .ok (.iconst 0, 1) := dk_3 (dk_at dksJ4_clear_1 8 rfl rfl)
theorem dJ4_clear_32 : decode cJ4_clear 32 = .ok (.istore_n 2, 1) := dk_61 (dk_at dksJ4_clear_1 9 rfl rfl)
theorem dJ4_clear_33 : decode cJ4_clear 33 = .ok (.iload_n 2, 1) := dk_28 (dk_at dksJ4_clear_1 10 rfl rfl)
theorem dJ4_clear_34 : decode cJ4_clear 34 = .ok (.aload_n 1, 1) := dk_43 (dk_at dksJ4_clear_1 11 rfl rfl)
theorem dJ4_clear_35 : decode cJ4_clear 35 = .ok (.arraylength, 1) := dk_190 (dk_at dksJ4_clear_1 12 rfl rfl)
theorem dJ4_clear_36 : decode cJ4_clear 36 = .ok (.if_icmp .ge 13, 3) := dk_162 0 13 (dk_at dksJ4_clear_1 13 rfl rfl)
theorem dJ4_clear_39 : decode cJ4_clear 39 = .ok (.aload_n 1, 1) := dk_43 (dk_at dksJ4_clear_1 16 rfl rfl)
theorem dJ4_clear_40 : decode cJ4_clear 40 = .ok (.iload_n 2, 1) := dk_28 (dk_at dksJ4_clear_1 17 rfl rfl)
theorem dJ4_clear_41 : decode cJ4_clear 41 = .ok (.aconst_null, 1) := dk_1 (dk_at dksJ4_clear_1 18 rfl rfl)
theorem dJ4_clear_42 : decode cJ4_clear 42 = .ok (.aastore, 1) := dk_83 (dk_at dksJ4_clear_1 19 rfl rfl)
theorem dJ4_clear_43 : decode cJ4_clear 43 = .ok (.iinc 2 1, 3) := dk_132 2 1 (dk_at dksJ4_clear_1 20 rfl rfl)
theorem dJ4_clear_46 : decode cJ4_clear 46 = .ok (.goto (-13), 3) := dk_167 255 243 (dk_at dksJ4_clear_2 0 rfl rfl)
theorem dJ4_clear_49 : decode cJ4_clear 49 = .ok (.return_, 1) := dk_177 (dk_at dksJ4_clear_2 3 rfl rfl)
abbrev cJ4_put : ByteArray := prog_43_method_15_code
def yJ4_put : MethodName := ⟨RJ4, "put", "(Ljava/lang/Object;Ljava/lang/Object;)Ljava/lang/Object;"⟩
def dkwJ4_put_0 : List UInt8 := [42, 43, 184, 0, 149, 43, 44, 3, 4, 182, 0, 152, 176]
abbrev dktJ4_put_0 : List UInt8 := dkwJ4_put_0 ++ []
theorem dksJ4_put_0 : cJ4_put.data.toList.drop 0 = dktJ4_put_0 := by decide +kernel
theorem dJ4_put_0 : decode cJ4_put 0 = .ok (.aload_n 0, 1) := dk_42 (dk_at dksJ4_put_0 0 rfl rfl)
theorem dJ4_put_1 : decode cJ4_put 1 = .ok (.aload_n 1, 1) := dk_43 (dk_at dksJ4_put_0 1 rfl rfl)
theorem dJ4_put_2 : decode cJ4_put 2 = .ok (.invokestatic 149, 3) := dk_184 0 149 (dk_at dksJ4_put_0 2 rfl rfl)
theorem dJ4_put_5 : decode cJ4_put 5 = .ok (.aload_n 1, 1) := dk_43 (dk_at dksJ4_put_0 5 rfl rfl)
theorem dJ4_put_6 : decode cJ4_put 6 = .ok (.aload_n 2, 1) := dk_44 (dk_at dksJ4_put_0 6 rfl rfl)
theorem dJ4_put_7 : decode cJ4_put 7 = .ok (.iconst 0, 1) := dk_3 (dk_at dksJ4_put_0 7 rfl rfl)
theorem dJ4_put_8 : decode cJ4_put 8 = .ok (.iconst 1, 1) := dk_4 (dk_at dksJ4_put_0 8 rfl rfl)
theorem dJ4_put_9 : decode cJ4_put 9 = .ok (.invokevirtual 152, 3) := dk_182 0 152 (dk_at dksJ4_put_0 9 rfl rfl)
theorem dJ4_put_12 : decode cJ4_put 12 = .ok (.areturn, 1) := dk_176 (dk_at dksJ4_put_0 12 rfl rfl)
abbrev cJ4_putVal : ByteArray := prog_43_method_16_code
def yJ4_putVal : MethodName := ⟨RJ4, "putVal", "(ILjava/lang/Object;Ljava/lang/Object;ZZ)Ljava/lang/Object;"⟩
def dkwJ4_putVal_12 : List UInt8 := [181, 0, 156, 42, 180, 0, 88, 164, 0, 8, 42, 182, 0, 117, 87, 42, 21, 5, 182, 0, 205, 1, 176]
abbrev dktJ4_putVal_12 : List UInt8 := dkwJ4_putVal_12 ++ []
def dkwJ4_putVal_11 : List UInt8 := [182, 0, 198, 25, 12, 176, 42, 89, 180, 0, 202, 4, 96, 181, 0, 202, 42, 89, 180, 0, 156, 4, 96, 90]
abbrev dktJ4_putVal_11 : List UInt8 := dkwJ4_putVal_11 ++ dktJ4_putVal_12
def dkwJ4_putVal_10 : List UInt8 := [180, 0, 162, 58, 12, 21, 4, 153, 0, 8, 25, 12, 199, 0, 9, 25, 10, 45, 181, 0, 162, 42, 25, 10]
abbrev dktJ4_putVal_10 : List UInt8 := dkwJ4_putVal_10 ++ dktJ4_putVal_11
def dkwJ4_putVal_9 : List UInt8 := [153, 0, 6, 167, 0, 13, 25, 10, 58, 7, 132, 12, 1, 167, 255, 171, 25, 10, 198, 0, 35, 25, 10]
abbrev dktJ4_putVal_9 : List UInt8 := dkwJ4_putVal_9 ++ dktJ4_putVal_10
def dkwJ4_putVal_8 : List UInt8 := [25, 10, 180, 0, 170, 89, 58, 11, 44, 165, 0, 29, 44, 198, 0, 15, 44, 25, 11, 182, 0, 173]
abbrev dktJ4_putVal_8 : List UInt8 := dkwJ4_putVal_8 ++ dktJ4_putVal_9
def dkwJ4_putVal_7 : List UInt8 := [16, 7, 161, 0, 60, 42, 25, 6, 27, 182, 0, 194, 167, 0, 50, 25, 10, 180, 0, 168, 27, 160, 0, 31]
abbrev dktJ4_putVal_7 : List UInt8 := dkwJ4_putVal_7 ++ dktJ4_putVal_8
def dkwJ4_putVal_6 : List UInt8 := [180, 0, 177, 89, 58, 10, 199, 0, 33, 25, 7, 42, 27, 44, 45, 1, 182, 0, 186, 181, 0, 177, 21, 12]
abbrev dktJ4_putVal_6 : List UInt8 := dkwJ4_putVal_6 ++ dktJ4_putVal_7
def dkwJ4_putVal_5 : List UInt8 := [192, 0, 180, 42, 25, 6, 27, 44, 45, 182, 0, 190, 58, 10, 167, 0, 94, 3, 54, 12, 25, 7]
abbrev dktJ4_putVal_5 : List UInt8 := dkwJ4_putVal_5 ++ dktJ4_putVal_6
def dkwJ4_putVal_4 : List UInt8 := [182, 0, 173, 153, 0, 10, 25, 7, 58, 10, 167, 0, 121, 25, 7, 193, 0, 180, 153, 0, 22, 25, 7]
abbrev dktJ4_putVal_4 : List UInt8 := dkwJ4_putVal_4 ++ dktJ4_putVal_5
def dkwJ4_putVal_3 : List UInt8 := [160, 0, 35, 25, 7, 180, 0, 170, 89, 58, 11, 44, 165, 0, 16, 44, 198, 0, 19, 44, 25, 11]
abbrev dktJ4_putVal_3 : List UInt8 := dkwJ4_putVal_3 ++ dktJ4_putVal_4
def dkwJ4_putVal_2 : List UInt8 := [25, 6, 21, 9, 42, 27, 44, 45, 1, 182, 0, 186, 83, 167, 0, 199, 25, 7, 180, 0, 168, 27]
abbrev dktJ4_putVal_2 : List UInt8 := dkwJ4_putVal_2 ++ dktJ4_putVal_3
def dkwJ4_putVal_1 : List UInt8 := [58, 6, 190, 54, 8, 25, 6, 21, 8, 4, 100, 27, 126, 89, 54, 9, 50, 89, 58, 7, 199, 0, 19]
abbrev dktJ4_putVal_1 : List UInt8 := dkwJ4_putVal_1 ++ dktJ4_putVal_2
def dkwJ4_putVal_0 : List UInt8 := [42, 180, 0, 105, 89, 58, 6, 198, 0, 12, 25, 6, 190, 89, 54, 8, 154, 0, 13, 42, 182, 0, 117, 89]
abbrev dktJ4_putVal_0 : List UInt8 := dkwJ4_putVal_0 ++ dktJ4_putVal_1
theorem dksJ4_putVal_0 : cJ4_putVal.data.toList.drop 0 = dktJ4_putVal_0 := by decide +kernel
theorem dksJ4_putVal_1 : cJ4_putVal.data.toList.drop 24 = dktJ4_putVal_1 := dk_seg dksJ4_putVal_0 24 rfl rfl
theorem dksJ4_putVal_2 : cJ4_putVal.data.toList.drop 47 = dktJ4_putVal_2 := dk_seg dksJ4_putVal_1 23 rfl rfl
theorem dksJ4_putVal_3 : cJ4_putVal.data.toList.drop 69 = dktJ4_putVal_3 := dk_seg dksJ4_putVal_2 22 rfl rfl
theorem dksJ4_putVal_4 : cJ4_putVal.data.toList.drop 91 = dktJ4_putVal_4 := dk_seg dksJ4_putVal_3 22 rfl rfl
theorem dksJ4_putVal_5 : cJ4_putVal.data.toList.drop 114 = dktJ4_putVal_5 := dk_seg dksJ4_putVal_4 23 rfl rfl
theorem dksJ4_putVal_6 : cJ4_putVal.data.toList.drop 136 = dktJ4_putVal_6 := dk_seg dksJ4_putVal_5 22 rfl rfl
theorem dksJ4_putVal_7 : cJ4_putVal.data.toList.drop 160 = dktJ4_putVal_7 := dk_seg dksJ4_putVal_6 24 rfl rfl
theorem dksJ4_putVal_8 : cJ4_putVal.data.toList.drop 184 = dktJ4_putVal_8 := dk_seg dksJ4_putVal_7 24 rfl rfl
theorem dksJ4_putVal_9 : cJ4_putVal.data.toList.drop 206 = dktJ4_putVal_9 := dk_seg dksJ4_putVal_8 22 rfl rfl
theorem dksJ4_putVal_10 : cJ4_putVal.data.toList.drop 229 = dktJ4_putVal_10 := dk_seg dksJ4_putVal_9 23 rfl rfl
theorem dksJ4_putVal_11 : cJ4_putVal.data.toList.drop 253 = dktJ4_putVal_11 := dk_seg dksJ4_putVal_10 24 rfl rfl
theorem dksJ4_putVal_12 : cJ4_putVal.data.toList.drop 277 = dktJ4_putVal_12 := dk_seg dksJ4_putVal_11 24 rfl rfl
theorem dJ4_putVal_0 : decode cJ4_putVal 0 = .ok (.aload_n 0, 1) := dk_42 (dk_at dksJ4_putVal_0 0 rfl rfl)
theorem dJ4_putVal_1 : decode cJ4_putVal 1 = .ok (.getfield 105, 3) := dk_180 0 105 (dk_at dksJ4_putVal_0 1 rfl rfl)
theorem dJ4_putVal_4 : decode cJ4_putVal 4 = .ok (.dup, 1) := dk_89 (dk_at dksJ4_putVal_0 4 rfl rfl)
theorem dJ4_putVal_5 : decode cJ4_putVal 5 = .ok (.astore 6, 2) := dk_58 6 (dk_at dksJ4_putVal_0 5 rfl rfl)
theorem dJ4_putVal_7 : decode cJ4_putVal 7 = .ok (.ifnull 12, 3) := dk_198 0 12 (dk_at dksJ4_putVal_0 7 rfl rfl)
theorem dJ4_putVal_10 : decode cJ4_putVal 10 = .ok (.aload 6, 2) := dk_25 6 (dk_at dksJ4_putVal_0 10 rfl rfl)
theorem dJ4_putVal_12 : decode cJ4_putVal 12 = .ok (.arraylength, 1) := dk_190 (dk_at dksJ4_putVal_0 12 rfl rfl)
theorem dJ4_putVal_13 : decode cJ4_putVal 13 = .ok (.dup, 1) := dk_89 (dk_at dksJ4_putVal_0 13 rfl rfl)
theorem dJ4_putVal_14 : decode cJ4_putVal 14 = .ok (.istore 8, 2) := dk_54 8 (dk_at dksJ4_putVal_0 14 rfl rfl)
theorem dJ4_putVal_16 : decode cJ4_putVal 16 = .ok (.ifCond .ne 13, 3) := dk_154 0 13 (dk_at dksJ4_putVal_0 16 rfl rfl)
theorem dJ4_putVal_19 : decode cJ4_putVal 19 = .ok (.aload_n 0, 1) := dk_42 (dk_at dksJ4_putVal_0 19 rfl rfl)
theorem dJ4_putVal_20 : decode cJ4_putVal 20 = .ok (.invokevirtual 117, 3) := dk_182 0 117 (dk_at dksJ4_putVal_0 20 rfl rfl)
theorem dJ4_putVal_23 : decode cJ4_putVal 23 = .ok (.dup, 1) := dk_89 (dk_at dksJ4_putVal_0 23 rfl rfl)
theorem dJ4_putVal_24 : decode cJ4_putVal 24 = .ok (.astore 6, 2) := dk_58 6 (dk_at dksJ4_putVal_1 0 rfl rfl)
theorem dJ4_putVal_26 : decode cJ4_putVal 26 = .ok (.arraylength, 1) := dk_190 (dk_at dksJ4_putVal_1 2 rfl rfl)
theorem dJ4_putVal_27 : decode cJ4_putVal 27 = .ok (.istore 8, 2) := dk_54 8 (dk_at dksJ4_putVal_1 3 rfl rfl)
theorem dJ4_putVal_29 : decode cJ4_putVal 29 = .ok (.aload 6, 2) := dk_25 6 (dk_at dksJ4_putVal_1 5 rfl rfl)
theorem dJ4_putVal_31 : decode cJ4_putVal 31 = .ok (.iload 8, 2) := dk_21 8 (dk_at dksJ4_putVal_1 7 rfl rfl)
theorem dJ4_putVal_33 : decode cJ4_putVal 33 = .ok (.iconst 1, 1) := dk_4 (dk_at dksJ4_putVal_1 9 rfl rfl)
theorem dJ4_putVal_34 : decode cJ4_putVal 34 = .ok (.isub, 1) := dk_100 (dk_at dksJ4_putVal_1 10 rfl rfl)
theorem dJ4_putVal_35 : decode cJ4_putVal 35 = .ok (.iload_n 1, 1) := dk_27 (dk_at dksJ4_putVal_1 11 rfl rfl)
theorem dJ4_putVal_36 : decode cJ4_putVal 36 = .ok (.iand, 1) := dk_126 (dk_at dksJ4_putVal_1 12 rfl rfl)
theorem dJ4_putVal_37 : decode cJ4_putVal 37 = .ok (.dup, 1) := dk_89 (dk_at dksJ4_putVal_1 13 rfl rfl)
theorem dJ4_putVal_38 : decode cJ4_putVal 38 = .ok (.istore 9, 2) := dk_54 9 (dk_at dksJ4_putVal_1 14 rfl rfl)
theorem dJ4_putVal_40 : decode cJ4_putVal 40 = .ok (.aaload, 1) := dk_50 (dk_at dksJ4_putVal_1 16 rfl rfl)
theorem dJ4_putVal_41 : decode cJ4_putVal 41 = .ok (.dup, 1) := dk_89 (dk_at dksJ4_putVal_1 17 rfl rfl)
theorem dJ4_putVal_42 : decode cJ4_putVal 42 = .ok (.astore 7, 2) := dk_58 7 (dk_at dksJ4_putVal_1 18 rfl rfl)
theorem dJ4_putVal_44 : decode cJ4_putVal 44 = .ok (.ifnonnull 19, 3) := dk_199 0 19 (dk_at dksJ4_putVal_1 20 rfl rfl)
theorem dJ4_putVal_47 : decode cJ4_putVal 47 = .ok (.aload 6, 2) := dk_25 6 (dk_at dksJ4_putVal_2 0 rfl rfl)
theorem dJ4_putVal_49 : decode cJ4_putVal 49 = .ok (.iload 9, 2) := dk_21 9 (dk_at dksJ4_putVal_2 2 rfl rfl)
theorem dJ4_putVal_51 : decode cJ4_putVal 51 = .ok (.aload_n 0, 1) := dk_42 (dk_at dksJ4_putVal_2 4 rfl rfl)
theorem dJ4_putVal_52 : decode cJ4_putVal 52 = .ok (.iload_n 1, 1) := dk_27 (dk_at dksJ4_putVal_2 5 rfl rfl)
theorem dJ4_putVal_53 : decode cJ4_putVal 53 = .ok (.aload_n 2, 1) := dk_44 (dk_at dksJ4_putVal_2 6 rfl rfl)
theorem dJ4_putVal_54 : decode cJ4_putVal 54 = .ok (.aload_n 3, 1) := dk_45 (dk_at dksJ4_putVal_2 7 rfl rfl)
theorem dJ4_putVal_55 : decode cJ4_putVal 55 = .ok (.aconst_null, 1) := dk_1 (dk_at dksJ4_putVal_2 8 rfl rfl)
theorem dJ4_putVal_56 : decode cJ4_putVal 56 = .ok (.invokevirtual 186, 3) := dk_182 0 186 (dk_at dksJ4_putVal_2 9 rfl rfl)
theorem dJ4_putVal_59 : decode cJ4_putVal 59 = .ok (.aastore, 1) := dk_83 (dk_at dksJ4_putVal_2 12 rfl rfl)
theorem dJ4_putVal_60 : decode cJ4_putVal 60 = .ok (.goto 199, 3) := dk_167 0 199 (dk_at dksJ4_putVal_2 13 rfl rfl)
theorem dJ4_putVal_63 : decode cJ4_putVal 63 = .ok (.aload 7, 2) := dk_25 7 (dk_at dksJ4_putVal_2 16 rfl rfl)
theorem dJ4_putVal_65 : decode cJ4_putVal 65 = .ok (.getfield 168, 3) := dk_180 0 168 (dk_at dksJ4_putVal_2 18 rfl rfl)
theorem dJ4_putVal_68 : decode cJ4_putVal 68 = .ok (.iload_n 1, 1) := dk_27 (dk_at dksJ4_putVal_2 21 rfl rfl)
theorem dJ4_putVal_69 : decode cJ4_putVal 69 = .ok (.if_icmp .ne 35, 3) := dk_160 0 35 (dk_at dksJ4_putVal_3 0 rfl rfl)
theorem dJ4_putVal_72 : decode cJ4_putVal 72 = .ok (.aload 7, 2) := dk_25 7 (dk_at dksJ4_putVal_3 3 rfl rfl)
theorem dJ4_putVal_74 : decode cJ4_putVal 74 = .ok (.getfield 170, 3) := dk_180 0 170 (dk_at dksJ4_putVal_3 5 rfl rfl)
theorem dJ4_putVal_77 : decode cJ4_putVal 77 = .ok (.dup, 1) := dk_89 (dk_at dksJ4_putVal_3 8 rfl rfl)
theorem dJ4_putVal_78 : decode cJ4_putVal 78 = .ok (.astore 11, 2) := dk_58 11 (dk_at dksJ4_putVal_3 9 rfl rfl)
theorem dJ4_putVal_80 : decode cJ4_putVal 80 = .ok (.aload_n 2, 1) := dk_44 (dk_at dksJ4_putVal_3 11 rfl rfl)
theorem dJ4_putVal_81 : decode cJ4_putVal 81 = .ok (.if_acmp .eq 16, 3) := dk_165 0 16 (dk_at dksJ4_putVal_3 12 rfl rfl)
theorem dJ4_putVal_84 : decode cJ4_putVal 84 = .ok (.aload_n 2, 1) := dk_44 (dk_at dksJ4_putVal_3 15 rfl rfl)
theorem dJ4_putVal_85 : decode cJ4_putVal 85 = .ok (.ifnull 19, 3) := dk_198 0 19 (dk_at dksJ4_putVal_3 16 rfl rfl)
theorem dJ4_putVal_88 : decode cJ4_putVal 88 = .ok (.aload_n 2, 1) := dk_44 (dk_at dksJ4_putVal_3 19 rfl rfl)
theorem dJ4_putVal_89 : decode cJ4_putVal 89 = .ok (.aload 11, 2) := dk_25 11 (dk_at dksJ4_putVal_3 20 rfl rfl)
theorem dJ4_putVal_91 : decode cJ4_putVal 91 = .ok (.invokevirtual 173, 3) := dk_182 0 173 (dk_at dksJ4_putVal_4 0 rfl rfl)
theorem dJ4_putVal_94 : decode cJ4_putVal 94 = .ok (.ifCond .eq 10, 3) := dk_153 0 10 (dk_at dksJ4_putVal_4 3 rfl rfl)
theorem dJ4_putVal_97 : decode cJ4_putVal 97 = .ok (.aload 7, 2) := dk_25 7 (dk_at dksJ4_putVal_4 6 rfl rfl)
theorem dJ4_putVal_99 : decode cJ4_putVal 99 = .ok (.astore 10, 2) := dk_58 10 (dk_at dksJ4_putVal_4 8 rfl rfl)
theorem dJ4_putVal_101 : decode cJ4_putVal 101 = .ok (.goto 121, 3) := dk_167 0 121 (dk_at dksJ4_putVal_4 10 rfl rfl)
theorem dJ4_putVal_104 : decode cJ4_putVal 104 = .ok (.aload 7, 2) := dk_25 7 (dk_at dksJ4_putVal_4 13 rfl rfl)
theorem dJ4_putVal_106 : decode cJ4_putVal 106 = .ok (.instanceof 180, 3) := dk_193 0 180 (dk_at dksJ4_putVal_4 15 rfl rfl)
theorem dJ4_putVal_109 : decode cJ4_putVal 109 = .ok (.ifCond .eq 22, 3) := dk_153 0 22 (dk_at dksJ4_putVal_4 18 rfl rfl)
theorem dJ4_putVal_112 : decode cJ4_putVal 112 = .ok (.aload 7, 2) := dk_25 7 (dk_at dksJ4_putVal_4 21 rfl rfl)
theorem dJ4_putVal_114 : decode cJ4_putVal 114 = .ok (.checkcast 180, 3) := dk_192 0 180 (dk_at dksJ4_putVal_5 0 rfl rfl)
theorem dJ4_putVal_117 : decode cJ4_putVal 117 = .ok (.aload_n 0, 1) := dk_42 (dk_at dksJ4_putVal_5 3 rfl rfl)
theorem dJ4_putVal_118 : decode cJ4_putVal 118 = .ok (.aload 6, 2) := dk_25 6 (dk_at dksJ4_putVal_5 4 rfl rfl)
theorem dJ4_putVal_120 : decode cJ4_putVal 120 = .ok (.iload_n 1, 1) := dk_27 (dk_at dksJ4_putVal_5 6 rfl rfl)
theorem dJ4_putVal_121 : decode cJ4_putVal 121 = .ok (.aload_n 2, 1) := dk_44 (dk_at dksJ4_putVal_5 7 rfl rfl)
theorem dJ4_putVal_122 : decode cJ4_putVal 122 = .ok (.aload_n 3, 1) := dk_45 (dk_at dksJ4_putVal_5 8 rfl rfl)
theorem dJ4_putVal_123 : decode cJ4_putVal 123 = .ok (.invokevirtual 190, 3) := dk_182 0 190 (dk_at dksJ4_putVal_5 9 rfl rfl)
theorem dJ4_putVal_126 : decode cJ4_putVal 126 = .ok (.astore 10, 2) := dk_58 10 (dk_at dksJ4_putVal_5 12 rfl rfl)
theorem dJ4_putVal_128 : decode cJ4_putVal 128 = .ok (.goto 94, 3) := dk_167 0 94 (dk_at dksJ4_putVal_5 14 rfl rfl)
theorem dJ4_putVal_131 : decode cJ4_putVal 131 = .ok (.iconst 0, 1) := dk_3 (dk_at dksJ4_putVal_5 17 rfl rfl)
theorem dJ4_putVal_132 : decode cJ4_putVal 132 = .ok (.istore 12, 2) := dk_54 12 (dk_at dksJ4_putVal_5 18 rfl rfl)
theorem dJ4_putVal_134 : decode cJ4_putVal 134 = .ok (.aload 7, 2) := dk_25 7 (dk_at dksJ4_putVal_5 20 rfl rfl)
theorem dJ4_putVal_136 : decode cJ4_putVal 136 = .ok (.getfield 177, 3) := dk_180 0 177 (dk_at dksJ4_putVal_6 0 rfl rfl)
theorem dJ4_putVal_139 : decode cJ4_putVal 139 = .ok (.dup, 1) := dk_89 (dk_at dksJ4_putVal_6 3 rfl rfl)
theorem dJ4_putVal_140 : decode cJ4_putVal 140 = .ok (.astore 10, 2) := dk_58 10 (dk_at dksJ4_putVal_6 4 rfl rfl)
theorem dJ4_putVal_142 : decode cJ4_putVal 142 = .ok (.ifnonnull 33, 3) := dk_199 0 33 (dk_at dksJ4_putVal_6 6 rfl rfl)
theorem dJ4_putVal_145 : decode cJ4_putVal 145 = .ok (.aload 7, 2) := dk_25 7 (dk_at dksJ4_putVal_6 9 rfl rfl)
theorem dJ4_putVal_147 : decode cJ4_putVal 147 = .ok (.aload_n 0, 1) := dk_42 (dk_at dksJ4_putVal_6 11 rfl rfl)
theorem dJ4_putVal_148 : decode cJ4_putVal 148 = .ok (.iload_n 1, 1) := dk_27 (dk_at dksJ4_putVal_6 12 rfl rfl)
theorem dJ4_putVal_149 : decode cJ4_putVal 149 = .ok (.aload_n 2, 1) := dk_44 (dk_at dksJ4_putVal_6 13 rfl rfl)
theorem dJ4_putVal_150 : decode cJ4_putVal 150 = .ok (.aload_n 3, 1) := dk_45 (dk_at dksJ4_putVal_6 14 rfl rfl)
theorem dJ4_putVal_151 : decode cJ4_putVal 151 = .ok (.aconst_null, 1) := dk_1 (dk_at dksJ4_putVal_6 15 rfl rfl)
theorem dJ4_putVal_152 : decode cJ4_putVal 152 = .ok (.invokevirtual 186, 3) := dk_182 0 186 (dk_at dksJ4_putVal_6 16 rfl rfl)
theorem dJ4_putVal_155 : decode cJ4_putVal 155 = .ok (.putfield 177, 3) := dk_181 0 177 (dk_at dksJ4_putVal_6 19 rfl rfl)
theorem dJ4_putVal_158 : decode cJ4_putVal 158 = .ok (.iload 12, 2) := dk_21 12 (dk_at dksJ4_putVal_6 22 rfl rfl)
theorem dJ4_putVal_160 : decode cJ4_putVal 160 = .ok (.bipush 7, 2) := dk_16 7 (dk_at dksJ4_putVal_7 0 rfl rfl)
theorem dJ4_putVal_162 : decode cJ4_putVal 162 = .ok (.if_icmp .lt 60, 3) := dk_161 0 60 (dk_at dksJ4_putVal_7 2 rfl rfl)
theorem dJ4_putVal_165 : decode cJ4_putVal 165 = .ok (.aload_n 0, 1) := dk_42 (dk_at dksJ4_putVal_7 5 rfl rfl)
theorem dJ4_putVal_166 : decode cJ4_putVal 166 = .ok (.aload 6, 2) := dk_25 6 (dk_at dksJ4_putVal_7 6 rfl rfl)
theorem dJ4_putVal_168 : decode cJ4_putVal 168 = .ok (.iload_n 1, 1) := dk_27 (dk_at dksJ4_putVal_7 8 rfl rfl)
theorem dJ4_putVal_169 : decode cJ4_putVal 169 = .ok (.invokevirtual 194, 3) := dk_182 0 194 (dk_at dksJ4_putVal_7 9 rfl rfl)
theorem dJ4_putVal_172 : decode cJ4_putVal 172 = .ok (.goto 50, 3) := dk_167 0 50 (dk_at dksJ4_putVal_7 12 rfl rfl)
theorem dJ4_putVal_175 : decode cJ4_putVal 175 = .ok (.aload 10, 2) := dk_25 10 (dk_at dksJ4_putVal_7 15 rfl rfl)
theorem dJ4_putVal_177 : decode cJ4_putVal 177 = .ok (.getfield 168, 3) := dk_180 0 168 (dk_at dksJ4_putVal_7 17 rfl rfl)
theorem dJ4_putVal_180 : decode cJ4_putVal 180 = .ok (.iload_n 1, 1) := dk_27 (dk_at dksJ4_putVal_7 20 rfl rfl)
theorem dJ4_putVal_181 : decode cJ4_putVal 181 = .ok (.if_icmp .ne 31, 3) := dk_160 0 31 (dk_at dksJ4_putVal_7 21 rfl rfl)
theorem dJ4_putVal_184 : decode cJ4_putVal 184 = .ok (.aload 10, 2) := dk_25 10 (dk_at dksJ4_putVal_8 0 rfl rfl)
theorem dJ4_putVal_186 : decode cJ4_putVal 186 = .ok (.getfield 170, 3) := dk_180 0 170 (dk_at dksJ4_putVal_8 2 rfl rfl)
theorem dJ4_putVal_189 : decode cJ4_putVal 189 = .ok (.dup, 1) := dk_89 (dk_at dksJ4_putVal_8 5 rfl rfl)
theorem dJ4_putVal_190 : decode cJ4_putVal 190 = .ok (.astore 11, 2) := dk_58 11 (dk_at dksJ4_putVal_8 6 rfl rfl)
theorem dJ4_putVal_192 : decode cJ4_putVal 192 = .ok (.aload_n 2, 1) := dk_44 (dk_at dksJ4_putVal_8 8 rfl rfl)
theorem dJ4_putVal_193 : decode cJ4_putVal 193 = .ok (.if_acmp .eq 29, 3) := dk_165 0 29 (dk_at dksJ4_putVal_8 9 rfl rfl)
theorem dJ4_putVal_196 : decode cJ4_putVal 196 = .ok (.aload_n 2, 1) := dk_44 (dk_at dksJ4_putVal_8 12 rfl rfl)
theorem dJ4_putVal_197 : decode cJ4_putVal 197 = .ok (.ifnull 15, 3) := dk_198 0 15 (dk_at dksJ4_putVal_8 13 rfl rfl)
theorem dJ4_putVal_200 : decode cJ4_putVal 200 = .ok (.aload_n 2, 1) := dk_44 (dk_at dksJ4_putVal_8 16 rfl rfl)
theorem dJ4_putVal_201 : decode cJ4_putVal 201 = .ok (.aload 11, 2) := dk_25 11 (dk_at dksJ4_putVal_8 17 rfl rfl)
theorem dJ4_putVal_203 : decode cJ4_putVal 203 = .ok (.invokevirtual 173, 3) := dk_182 0 173 (dk_at dksJ4_putVal_8 19 rfl rfl)
theorem dJ4_putVal_206 : decode cJ4_putVal 206 = .ok (.ifCond .eq 6, 3) := dk_153 0 6 (dk_at dksJ4_putVal_9 0 rfl rfl)
theorem dJ4_putVal_209 : decode cJ4_putVal 209 = .ok (.goto 13, 3) := dk_167 0 13 (dk_at dksJ4_putVal_9 3 rfl rfl)
theorem dJ4_putVal_212 : decode cJ4_putVal 212 = .ok (.aload 10, 2) := dk_25 10 (dk_at dksJ4_putVal_9 6 rfl rfl)
theorem dJ4_putVal_214 : decode cJ4_putVal 214 = .ok (.astore 7, 2) := dk_58 7 (dk_at dksJ4_putVal_9 8 rfl rfl)
theorem dJ4_putVal_216 : decode cJ4_putVal 216 = .ok (.iinc 12 1, 3) := dk_132 12 1 (dk_at dksJ4_putVal_9 10 rfl rfl)
theorem dJ4_putVal_219 : decode cJ4_putVal 219 = .ok (.goto (-85), 3) := dk_167 255 171 (dk_at dksJ4_putVal_9 13 rfl rfl)
theorem dJ4_putVal_222 : decode cJ4_putVal 222 = .ok (.aload 10, 2) := dk_25 10 (dk_at dksJ4_putVal_9 16 rfl rfl)
theorem dJ4_putVal_224 : decode cJ4_putVal 224 = .ok (.ifnull 35, 3) := dk_198 0 35 (dk_at dksJ4_putVal_9 18 rfl rfl)
theorem dJ4_putVal_227 : decode cJ4_putVal 227 = .ok (.aload 10, 2) := dk_25 10 (dk_at dksJ4_putVal_9 21 rfl rfl)
theorem dJ4_putVal_229 : decode cJ4_putVal 229 = .ok (.getfield 162, 3) := dk_180 0 162 (dk_at dksJ4_putVal_10 0 rfl rfl)
theorem dJ4_putVal_232 : decode cJ4_putVal 232 = .ok (.astore 12, 2) := dk_58 12 (dk_at dksJ4_putVal_10 3 rfl rfl)
theorem dJ4_putVal_234 : decode cJ4_putVal 234 = .ok (.iload 4, 2) := dk_21 4 (dk_at dksJ4_putVal_10 5 rfl rfl)
theorem dJ4_putVal_236 : decode cJ4_putVal 236 = .ok (.ifCond .eq 8, 3) := dk_153 0 8 (dk_at dksJ4_putVal_10 7 rfl rfl)
theorem dJ4_putVal_239 : decode cJ4_putVal 239 = .ok (.aload 12, 2) := dk_25 12 (dk_at dksJ4_putVal_10 10 rfl rfl)
theorem dJ4_putVal_241 : decode cJ4_putVal 241 = .ok (.ifnonnull 9, 3) := dk_199 0 9 (dk_at dksJ4_putVal_10 12 rfl rfl)
theorem dJ4_putVal_244 : decode cJ4_putVal 244 = .ok (.aload 10, 2) := dk_25 10 (dk_at dksJ4_putVal_10 15 rfl rfl)
theorem dJ4_putVal_246 : decode cJ4_putVal 246 = .ok (.aload_n 3, 1) := dk_45 (dk_at dksJ4_putVal_10 17 rfl rfl)
theorem dJ4_putVal_247 : decode cJ4_putVal 247 = .ok (.putfield 162, 3) := dk_181 0 162 (dk_at dksJ4_putVal_10 18 rfl rfl)
theorem dJ4_putVal_250 : decode cJ4_putVal 250 = .ok (.aload_n 0, 1) := dk_42 (dk_at dksJ4_putVal_10 21 rfl rfl)
theorem dJ4_putVal_251 : decode cJ4_putVal 251 = .ok (.aload 10, 2) := dk_25 10 (dk_at dksJ4_putVal_10 22 rfl rfl)
theorem dJ4_putVal_253 : decode cJ4_putVal 253 = .ok (.invokevirtual 198, 3) := dk_182 0 198 (dk_at dksJ4_putVal_11 0 rfl rfl)
theorem dJ4_putVal_256 : decode cJ4_putVal 256 = .ok (.aload 12, 2) := dk_25 12 (dk_at dksJ4_putVal_11 3 rfl rfl)
theorem dJ4_putVal_258 : decode cJ4_putVal 258 = .ok (.areturn, 1) := dk_176 (dk_at dksJ4_putVal_11 5 rfl rfl)
theorem dJ4_putVal_259 : decode cJ4_putVal 259 = .ok (.aload_n 0, 1) := dk_42 (dk_at dksJ4_putVal_11 6 rfl rfl)
theorem dJ4_putVal_260 : decode cJ4_putVal 260 = .ok (.dup, 1) := dk_89 (dk_at dksJ4_putVal_11 7 rfl rfl)
theorem dJ4_putVal_261 : decode cJ4_putVal 261 = .ok (.getfield 202, 3) := dk_180 0 202 (dk_at dksJ4_putVal_11 8 rfl rfl)
theorem dJ4_putVal_264 : decode cJ4_putVal 264 = .ok (.iconst 1, 1) := dk_4 (dk_at dksJ4_putVal_11 11 rfl rfl)
theorem dJ4_putVal_265 : decode cJ4_putVal 265 = .ok (.iadd, 1) := dk_96 (dk_at dksJ4_putVal_11 12 rfl rfl)
theorem dJ4_putVal_266 : decode cJ4_putVal 266 = .ok (.putfield 202, 3) := dk_181 0 202 (dk_at dksJ4_putVal_11 13 rfl rfl)
theorem dJ4_putVal_269 : decode cJ4_putVal 269 = .ok (.aload_n 0, 1) := dk_42 (dk_at dksJ4_putVal_11 16 rfl rfl)
theorem dJ4_putVal_270 : decode cJ4_putVal 270 = .ok (.dup, 1) := dk_89 (dk_at dksJ4_putVal_11 17 rfl rfl)
theorem dJ4_putVal_271 : decode cJ4_putVal 271 = .ok (.getfield 156, 3) := dk_180 0 156 (dk_at dksJ4_putVal_11 18 rfl rfl)
theorem dJ4_putVal_274 : decode cJ4_putVal 274 = .ok (.iconst 1, 1) := dk_4 (dk_at dksJ4_putVal_11 21 rfl rfl)
theorem dJ4_putVal_275 : decode cJ4_putVal 275 = .ok (.iadd, 1) := dk_96 (dk_at dksJ4_putVal_11 22 rfl rfl)
theorem dJ4_putVal_276 : decode cJ4_putVal 276 = .ok (.dup_x1, 1) := dk_90 (dk_at dksJ4_putVal_11 23 rfl rfl)
theorem dJ4_putVal_277 : decode cJ4_putVal 277 = .ok (.putfield 156, 3) := dk_181 0 156 (dk_at dksJ4_putVal_12 0 rfl rfl)
theorem dJ4_putVal_280 : decode cJ4_putVal 280 = .ok (.aload_n 0, 1) := dk_42 (dk_at dksJ4_putVal_12 3 rfl rfl)
theorem dJ4_putVal_281 : decode cJ4_putVal 281 = .ok (.getfield 88, 3) := dk_180 0 88 (dk_at dksJ4_putVal_12 4 rfl rfl)
theorem dJ4_putVal_284 : decode cJ4_putVal 284 = .ok (.if_icmp .le 8, 3) := dk_164 0 8 (dk_at dksJ4_putVal_12 7 rfl rfl)
theorem dJ4_putVal_287 : decode cJ4_putVal 287 = .ok (.aload_n 0, 1) := dk_42 (dk_at dksJ4_putVal_12 10 rfl rfl)
theorem dJ4_putVal_288 : decode cJ4_putVal 288 = .ok (.invokevirtual 117, 3) := dk_182 0 117 (dk_at dksJ4_putVal_12 11 rfl rfl)
theorem dJ4_putVal_291 : decode cJ4_putVal 291 = .ok (.pop, 1) := dk_87 (dk_at dksJ4_putVal_12 14 rfl rfl)
theorem dJ4_putVal_292 : decode cJ4_putVal 292 = .ok (.aload_n 0, 1) := dk_42 (dk_at dksJ4_putVal_12 15 rfl rfl)
theorem dJ4_putVal_293 : decode cJ4_putVal 293 = .ok (.iload 5, 2) := dk_21 5 (dk_at dksJ4_putVal_12 16 rfl rfl)
theorem dJ4_putVal_295 : decode cJ4_putVal 295 = .ok (.invokevirtual 205, 3) := dk_182 0 205 (dk_at dksJ4_putVal_12 18 rfl rfl)
theorem dJ4_putVal_298 : decode cJ4_putVal 298 = .ok (.aconst_null, 1) := dk_1 (dk_at dksJ4_putVal_12 21 rfl rfl)
theorem dJ4_putVal_299 : decode cJ4_putVal 299 = .ok (.areturn, 1) := dk_176 (dk_at dksJ4_putVal_12 22 rfl rfl)
abbrev cJ4_resize : ByteArray := prog_43_method_17_code
def yJ4_resize : MethodName := ⟨RJ4, "resize", "()[Ljava/util/HashMap$Node;"⟩
def dkwJ4_resize_15 : List UInt8 := [25, 6, 176]
abbrev dktJ4_resize_15 : List UInt8 := dkwJ4_resize_15 ++ []
def dkwJ4_resize_14 : List UInt8 := [198, 0, 18, 25, 12, 1, 181, 0, 177, 25, 6, 21, 7, 28, 96, 25, 11, 83, 132, 7, 1, 167, 255, 57]
abbrev dktJ4_resize_14 : List UInt8 := dkwJ4_resize_14 ++ dktJ4_resize_15
def dkwJ4_resize_13 : List UInt8 := [199, 255, 185, 25, 10, 198, 0, 16, 25, 10, 1, 181, 0, 177, 25, 6, 21, 7, 25, 9, 83, 25, 12]
abbrev dktJ4_resize_13 : List UInt8 := dkwJ4_resize_13 ++ dktJ4_resize_14
def dkwJ4_resize_12 : List UInt8 := [25, 8, 58, 11, 167, 0, 10, 25, 12, 25, 8, 181, 0, 177, 25, 8, 58, 12, 25, 13, 89, 58, 8]
abbrev dktJ4_resize_12 : List UInt8 := dkwJ4_resize_12 ++ dktJ4_resize_13
def dkwJ4_resize_11 : List UInt8 := [58, 9, 167, 0, 10, 25, 10, 25, 8, 181, 0, 177, 25, 8, 58, 10, 167, 0, 26, 25, 12, 199, 0, 10]
abbrev dktJ4_resize_11 : List UInt8 := dkwJ4_resize_11 ++ dktJ4_resize_12
def dkwJ4_resize_10 : List UInt8 := [25, 8, 180, 0, 177, 58, 13, 25, 8, 180, 0, 168, 28, 126, 154, 0, 29, 25, 10, 199, 0, 10, 25, 8]
abbrev dktJ4_resize_10 : List UInt8 := dkwJ4_resize_10 ++ dktJ4_resize_11
def dkwJ4_resize_9 : List UInt8 := [42, 25, 6, 21, 7, 28, 182, 0, 211, 167, 0, 127, 1, 58, 9, 1, 58, 10, 1, 58, 11, 1, 58, 12]
abbrev dktJ4_resize_9 : List UInt8 := dkwJ4_resize_9 ++ dktJ4_resize_10
def dkwJ4_resize_8 : List UInt8 := [21, 4, 4, 100, 126, 25, 8, 83, 167, 0, 152, 25, 8, 193, 0, 180, 153, 0, 20, 25, 8, 192, 0, 180]
abbrev dktJ4_resize_8 : List UInt8 := dkwJ4_resize_8 ++ dktJ4_resize_9
def dkwJ4_resize_7 : List UInt8 := [198, 0, 183, 43, 21, 7, 1, 83, 25, 8, 180, 0, 177, 199, 0, 21, 25, 6, 25, 8, 180, 0, 168]
abbrev dktJ4_resize_7 : List UInt8 := dkwJ4_resize_7 ++ dktJ4_resize_8
def dkwJ4_resize_6 : List UInt8 := [181, 0, 105, 43, 198, 0, 208, 3, 54, 7, 21, 7, 28, 162, 0, 199, 43, 21, 7, 50, 89, 58, 8]
abbrev dktJ4_resize_6 : List UInt8 := dkwJ4_resize_6 ++ dktJ4_resize_7
def dkwJ4_resize_5 : List UInt8 := [167, 0, 5, 18, 209, 54, 5, 42, 21, 5, 181, 0, 88, 21, 4, 189, 0, 163, 58, 6, 42, 25, 6]
abbrev dktJ4_resize_5 : List UInt8 := dkwJ4_resize_5 ++ dktJ4_resize_6
def dkwJ4_resize_4 : List UInt8 := [180, 0, 81, 106, 56, 6, 21, 4, 18, 42, 162, 0, 17, 23, 6, 18, 210, 150, 156, 0, 9, 23, 6, 139]
abbrev dktJ4_resize_4 : List UInt8 := dkwJ4_resize_4 ++ dktJ4_resize_5
def dkwJ4_resize_3 : List UInt8 := [54, 4, 167, 0, 11, 16, 16, 54, 4, 16, 12, 54, 5, 21, 5, 154, 0, 38, 21, 4, 134, 42]
abbrev dktJ4_resize_3 : List UInt8 := dkwJ4_resize_3 ++ dktJ4_resize_4
def dkwJ4_resize_2 : List UInt8 := [18, 42, 162, 0, 35, 28, 16, 16, 161, 0, 29, 29, 4, 120, 54, 5, 167, 0, 21, 29, 158, 0, 9, 29]
abbrev dktJ4_resize_2 : List UInt8 := dkwJ4_resize_2 ++ dktJ4_resize_3
def dkwJ4_resize_1 : List UInt8 := [28, 158, 0, 42, 28, 18, 42, 161, 0, 11, 42, 18, 209, 181, 0, 88, 43, 176, 28, 4, 120, 89, 54, 4]
abbrev dktJ4_resize_1 : List UInt8 := dkwJ4_resize_1 ++ dktJ4_resize_2
def dkwJ4_resize_0 : List UInt8 := [42, 180, 0, 105, 76, 43, 199, 0, 7, 3, 167, 0, 5, 43, 190, 61, 42, 180, 0, 88, 62, 3, 54, 5]
abbrev dktJ4_resize_0 : List UInt8 := dkwJ4_resize_0 ++ dktJ4_resize_1
theorem dksJ4_resize_0 : cJ4_resize.data.toList.drop 0 = dktJ4_resize_0 := by decide +kernel
theorem dksJ4_resize_1 : cJ4_resize.data.toList.drop 24 = dktJ4_resize_1 := dk_seg dksJ4_resize_0 24 rfl rfl
theorem dksJ4_resize_2 : cJ4_resize.data.toList.drop 48 = dktJ4_resize_2 := dk_seg dksJ4_resize_1 24 rfl rfl
theorem dksJ4_resize_3 : cJ4_resize.data.toList.drop 72 = dktJ4_resize_3 := dk_seg dksJ4_resize_2 24 rfl rfl
theorem dksJ4_resize_4 : cJ4_resize.data.toList.drop 94 = dktJ4_resize_4 := dk_seg dksJ4_resize_3 22 rfl rfl
theorem dksJ4_resize_5 : cJ4_resize.data.toList.drop 118 = dktJ4_resize_5 := dk_seg dksJ4_resize_4 24 rfl rfl
theorem dksJ4_resize_6 : cJ4_resize.data.toList.drop 141 = dktJ4_resize_6 := dk_seg dksJ4_resize_5 23 rfl rfl
theorem dksJ4_resize_7 : cJ4_resize.data.toList.drop 164 = dktJ4_resize_7 := dk_seg dksJ4_resize_6 23 rfl rfl
theorem dksJ4_resize_8 : cJ4_resize.data.toList.drop 187 = dktJ4_resize_8 := dk_seg dksJ4_resize_7 23 rfl rfl
theorem dksJ4_resize_9 : cJ4_resize.data.toList.drop 211 = dktJ4_resize_9 := dk_seg dksJ4_resize_8 24 rfl rfl
theorem dksJ4_resize_10 : cJ4_resize.data.toList.drop 235 = dktJ4_resize_10 := dk_seg dksJ4_resize_9 24 rfl rfl
theorem dksJ4_resize_11 : cJ4_resize.data.toList.drop 259 = dktJ4_resize_11 := dk_seg dksJ4_resize_10 24 rfl rfl
theorem dksJ4_resize_12 : cJ4_resize.data.toList.drop 283 = dktJ4_resize_12 := dk_seg dksJ4_resize_11 24 rfl rfl
theorem dksJ4_resize_13 : cJ4_resize.data.toList.drop 306 = dktJ4_resize_13 := dk_seg dksJ4_resize_12 23 rfl rfl
theorem dksJ4_resize_14 : cJ4_resize.data.toList.drop 329 = dktJ4_resize_14 := dk_seg dksJ4_resize_13 23 rfl rfl
theorem dksJ4_resize_15 : cJ4_resize.data.toList.drop 353 = dktJ4_resize_15 := dk_seg dksJ4_resize_14 24 rfl rfl
theorem dJ4_resize_0 : decode cJ4_resize 0 = .ok (.aload_n 0, 1) := dk_42 (dk_at dksJ4_resize_0 0 rfl rfl)
theorem dJ4_resize_1 : decode cJ4_resize 1 = .ok (.getfield 105, 3) := dk_180 0 105 (dk_at dksJ4_resize_0 1 rfl rfl)
theorem dJ4_resize_4 : decode cJ4_resize 4 = .ok (.astore_n 1, 1) := dk_76 (dk_at dksJ4_resize_0 4 rfl rfl)
theorem dJ4_resize_5 : decode cJ4_resize 5 = .ok (.aload_n 1, 1) := dk_43 (dk_at dksJ4_resize_0 5 rfl rfl)
theorem dJ4_resize_6 : decode cJ4_resize 6 = .ok (.ifnonnull 7, 3) := dk_199 0 7 (dk_at dksJ4_resize_0 6 rfl rfl)
theorem dJ4_resize_9 : decode cJ4_resize 9 = .ok (.iconst 0, 1) := dk_3 (dk_at dksJ4_resize_0 9 rfl rfl)
theorem dJ4_resize_10 : decode cJ4_resize 10 = .ok (.goto 5, 3) := dk_167 0 5 (dk_at dksJ4_resize_0 10 rfl rfl)
theorem dJ4_resize_13 : decode cJ4_resize 13 = .ok (.aload_n 1, 1) := dk_43 (dk_at dksJ4_resize_0 13 rfl rfl)
theorem dJ4_resize_14 : decode cJ4_resize 14 = .ok (.arraylength, 1) := dk_190 (dk_at dksJ4_resize_0 14 rfl rfl)
theorem dJ4_resize_15 : decode cJ4_resize 15 = .ok (.istore_n 2, 1) := dk_61 (dk_at dksJ4_resize_0 15 rfl rfl)
theorem dJ4_resize_16 : decode cJ4_resize 16 = .ok (.aload_n 0, 1) := dk_42 (dk_at dksJ4_resize_0 16 rfl rfl)
theorem dJ4_resize_17 : decode cJ4_resize 17 = .ok (.getfield 88, 3) := dk_180 0 88 (dk_at dksJ4_resize_0 17 rfl rfl)
theorem dJ4_resize_20 : decode cJ4_resize 20 = .ok (.istore_n 3, 1) := dk_62 (dk_at dksJ4_resize_0 20 rfl rfl)
theorem dJ4_resize_21 : decode cJ4_resize 21 = .ok (.iconst 0, 1) := dk_3 (dk_at dksJ4_resize_0 21 rfl rfl)
theorem dJ4_resize_22 : decode cJ4_resize 22 = .ok (.istore 5, 2) := dk_54 5 (dk_at dksJ4_resize_0 22 rfl rfl)
theorem dJ4_resize_24 : decode cJ4_resize 24 = .ok (.iload_n 2, 1) := dk_28 (dk_at dksJ4_resize_1 0 rfl rfl)
theorem dJ4_resize_25 : decode cJ4_resize 25 = .ok (.ifCond .le 42, 3) := dk_158 0 42 (dk_at dksJ4_resize_1 1 rfl rfl)
theorem dJ4_resize_28 : decode cJ4_resize 28 = .ok (.iload_n 2, 1) := dk_28 (dk_at dksJ4_resize_1 4 rfl rfl)
theorem dJ4_resize_29 : decode cJ4_resize 29 = .ok (.ldc 42, 2) := dk_18 42 (dk_at dksJ4_resize_1 5 rfl rfl)
theorem dJ4_resize_31 : decode cJ4_resize 31 = .ok (.if_icmp .lt 11, 3) := dk_161 0 11 (dk_at dksJ4_resize_1 7 rfl rfl)
theorem dJ4_resize_34 : decode cJ4_resize 34 = .ok (.aload_n 0, 1) := dk_42 (dk_at dksJ4_resize_1 10 rfl rfl)
theorem dJ4_resize_35 : decode cJ4_resize 35 = .ok (.ldc 209, 2) := dk_18 209 (dk_at dksJ4_resize_1 11 rfl rfl)
theorem dJ4_resize_37 : decode cJ4_resize 37 = .ok (.putfield 88, 3) := dk_181 0 88 (dk_at dksJ4_resize_1 13 rfl rfl)
theorem dJ4_resize_40 : decode cJ4_resize 40 = .ok (.aload_n 1, 1) := dk_43 (dk_at dksJ4_resize_1 16 rfl rfl)
theorem dJ4_resize_41 : decode cJ4_resize 41 = .ok (.areturn, 1) := dk_176 (dk_at dksJ4_resize_1 17 rfl rfl)
theorem dJ4_resize_42 : decode cJ4_resize 42 = .ok (.iload_n 2, 1) := dk_28 (dk_at dksJ4_resize_1 18 rfl rfl)
theorem dJ4_resize_43 : decode cJ4_resize 43 = .ok (.iconst 1, 1) := dk_4 (dk_at dksJ4_resize_1 19 rfl rfl)
theorem dJ4_resize_44 : decode cJ4_resize 44 = .ok (.ishl, 1) := dk_120 (dk_at dksJ4_resize_1 20 rfl rfl)
theorem dJ4_resize_45 : decode cJ4_resize 45 = .ok (.dup, 1) := dk_89 (dk_at dksJ4_resize_1 21 rfl rfl)
theorem dJ4_resize_46 : decode cJ4_resize 46 = .ok (.istore 4, 2) := dk_54 4 (dk_at dksJ4_resize_1 22 rfl rfl)
theorem dJ4_resize_48 : decode cJ4_resize 48 = .ok (.ldc 42, 2) := dk_18 42 (dk_at dksJ4_resize_2 0 rfl rfl)
theorem dJ4_resize_50 : decode cJ4_resize 50 = .ok (.if_icmp .ge 35, 3) := dk_162 0 35 (dk_at dksJ4_resize_2 2 rfl rfl)
theorem dJ4_resize_53 : decode cJ4_resize 53 = .ok (.iload_n 2, 1) := dk_28 (dk_at dksJ4_resize_2 5 rfl rfl)
theorem dJ4_resize_54 : decode cJ4_resize 54 = .ok (.bipush 16, 2) := dk_16 16 (dk_at dksJ4_resize_2 6 rfl rfl)
theorem dJ4_resize_56 : decode cJ4_resize 56 = .ok (.if_icmp .lt 29, 3) := dk_161 0 29 (dk_at dksJ4_resize_2 8 rfl rfl)
theorem dJ4_resize_59 : decode cJ4_resize 59 = .ok (.iload_n 3, 1) := dk_29 (dk_at dksJ4_resize_2 11 rfl rfl)
theorem dJ4_resize_60 : decode cJ4_resize 60 = .ok (.iconst 1, 1) := dk_4 (dk_at dksJ4_resize_2 12 rfl rfl)
theorem dJ4_resize_61 : decode cJ4_resize 61 = .ok (.ishl, 1) := dk_120 (dk_at dksJ4_resize_2 13 rfl rfl)
theorem dJ4_resize_62 : decode cJ4_resize 62 = .ok (.istore 5, 2) := dk_54 5 (dk_at dksJ4_resize_2 14 rfl rfl)
theorem dJ4_resize_64 : decode cJ4_resize 64 = .ok (.goto 21, 3) := dk_167 0 21 (dk_at dksJ4_resize_2 16 rfl rfl)
theorem dJ4_resize_67 : decode cJ4_resize 67 = .ok (.iload_n 3, 1) := dk_29 (dk_at dksJ4_resize_2 19 rfl rfl)
theorem dJ4_resize_68 : decode cJ4_resize 68 = .ok (.ifCond .le 9, 3) := dk_158 0 9 (dk_at dksJ4_resize_2 20 rfl rfl)
theorem dJ4_resize_71 : decode cJ4_resize 71 = .ok (.iload_n 3, 1) := dk_29 (dk_at dksJ4_resize_2 23 rfl rfl)
theorem dJ4_resize_72 : decode cJ4_resize 72 = .ok (.istore 4, 2) := dk_54 4 (dk_at dksJ4_resize_3 0 rfl rfl)
theorem dJ4_resize_74 : decode cJ4_resize 74 = .ok (.goto 11, 3) := dk_167 0 11 (dk_at dksJ4_resize_3 2 rfl rfl)
theorem dJ4_resize_77 : decode cJ4_resize 77 = .ok (.bipush 16, 2) := dk_16 16 (dk_at dksJ4_resize_3 5 rfl rfl)
theorem dJ4_resize_79 : decode cJ4_resize 79 = .ok (.istore 4, 2) := dk_54 4 (dk_at dksJ4_resize_3 7 rfl rfl)
theorem dJ4_resize_81 : decode cJ4_resize 81 = .ok (.bipush 12, 2) := dk_16 12 (dk_at dksJ4_resize_3 9 rfl rfl)
theorem dJ4_resize_83 : decode cJ4_resize 83 = .ok (.istore 5, 2) := dk_54 5 (dk_at dksJ4_resize_3 11 rfl rfl)
theorem dJ4_resize_85 : decode cJ4_resize 85 = .ok (.iload 5, 2) := dk_21 5 (dk_at dksJ4_resize_3 13 rfl rfl)
theorem dJ4_resize_87 : decode cJ4_resize 87 = .ok (.ifCond .ne 38, 3) := dk_154 0 38 (dk_at dksJ4_resize_3 15 rfl rfl)
theorem dJ4_resize_90 : decode cJ4_resize 90 = .ok (.iload 4, 2) := dk_21 4 (dk_at dksJ4_resize_3 18 rfl rfl)
theorem dJ4_resize_92 : decode cJ4_resize 92 = .ok (.i2f, 1) := dk_134 (dk_at dksJ4_resize_3 20 rfl rfl)
theorem dJ4_resize_93 : decode cJ4_resize 93 = .ok (.aload_n 0, 1) := dk_42 (dk_at dksJ4_resize_3 21 rfl rfl)
theorem dJ4_resize_94 : decode cJ4_resize 94 = .ok (.getfield 81, 3) := dk_180 0 81 (dk_at dksJ4_resize_4 0 rfl rfl)
theorem dJ4_resize_97 : decode cJ4_resize 97 = .ok (.fmul, 1) := dk_106 (dk_at dksJ4_resize_4 3 rfl rfl)
theorem dJ4_resize_98 : decode cJ4_resize 98 = .ok (.fstore 6, 2) := dk_56 6 (dk_at dksJ4_resize_4 4 rfl rfl)
theorem dJ4_resize_100 : decode cJ4_resize 100 = .ok (.iload 4, 2) := dk_21 4 (dk_at dksJ4_resize_4 6 rfl rfl)
theorem dJ4_resize_102 : decode cJ4_resize 102 = .ok (.ldc 42, 2) := dk_18 42 (dk_at dksJ4_resize_4 8 rfl rfl)
theorem dJ4_resize_104 : decode cJ4_resize 104 = .ok (.if_icmp .ge 17, 3) := dk_162 0 17 (dk_at dksJ4_resize_4 10 rfl rfl)
theorem dJ4_resize_107 : decode cJ4_resize 107 = .ok (.fload 6, 2) := dk_23 6 (dk_at dksJ4_resize_4 13 rfl rfl)
theorem dJ4_resize_109 : decode cJ4_resize 109 = .ok (.ldc 210, 2) := dk_18 210 (dk_at dksJ4_resize_4 15 rfl rfl)
theorem dJ4_resize_111 : decode cJ4_resize 111 = .ok (.fcmp .g, 1) := dk_150 (dk_at dksJ4_resize_4 17 rfl rfl)
theorem dJ4_resize_112 : decode cJ4_resize 112 = .ok (.ifCond .ge 9, 3) := dk_156 0 9 (dk_at dksJ4_resize_4 18 rfl rfl)
theorem dJ4_resize_115 : decode cJ4_resize 115 = .ok (.fload 6, 2) := dk_23 6 (dk_at dksJ4_resize_4 21 rfl rfl)
theorem dJ4_resize_117 : decode cJ4_resize 117 = .ok (.f2i, 1) := dk_139 (dk_at dksJ4_resize_4 23 rfl rfl)
theorem dJ4_resize_118 : decode cJ4_resize 118 = .ok (.goto 5, 3) := dk_167 0 5 (dk_at dksJ4_resize_5 0 rfl rfl)
theorem dJ4_resize_121 : decode cJ4_resize 121 = .ok (.ldc 209, 2) := dk_18 209 (dk_at dksJ4_resize_5 3 rfl rfl)
theorem dJ4_resize_123 : decode cJ4_resize 123 = .ok (.istore 5, 2) := dk_54 5 (dk_at dksJ4_resize_5 5 rfl rfl)
theorem dJ4_resize_125 : decode cJ4_resize 125 = .ok (.aload_n 0, 1) := dk_42 (dk_at dksJ4_resize_5 7 rfl rfl)
theorem dJ4_resize_126 : decode cJ4_resize 126 = .ok (.iload 5, 2) := dk_21 5 (dk_at dksJ4_resize_5 8 rfl rfl)
theorem dJ4_resize_128 : decode cJ4_resize 128 = .ok (.putfield 88, 3) := dk_181 0 88 (dk_at dksJ4_resize_5 10 rfl rfl)
theorem dJ4_resize_131 : decode cJ4_resize 131 = .ok (.iload 4, 2) := dk_21 4 (dk_at dksJ4_resize_5 13 rfl rfl)
theorem dJ4_resize_133 : decode cJ4_resize 133 = .ok (.anewarray 163, 3) := dk_189 0 163 (dk_at dksJ4_resize_5 15 rfl rfl)
theorem dJ4_resize_136 : decode cJ4_resize 136 = .ok (.astore 6, 2) := dk_58 6 (dk_at dksJ4_resize_5 18 rfl rfl)
theorem dJ4_resize_138 : decode cJ4_resize 138 = .ok (.aload_n 0, 1) := dk_42 (dk_at dksJ4_resize_5 20 rfl rfl)
theorem dJ4_resize_139 : decode cJ4_resize 139 = .ok (.aload 6, 2) := dk_25 6 (dk_at dksJ4_resize_5 21 rfl rfl)
theorem dJ4_resize_141 : decode cJ4_resize 141 = .ok (.putfield 105, 3) := dk_181 0 105 (dk_at dksJ4_resize_6 0 rfl rfl)
theorem dJ4_resize_144 : decode cJ4_resize 144 = .ok (.aload_n 1, 1) := dk_43 (dk_at dksJ4_resize_6 3 rfl rfl)
theorem dJ4_resize_145 : decode cJ4_resize 145 = .ok (.ifnull 208, 3) := dk_198 0 208 (dk_at dksJ4_resize_6 4 rfl rfl)
theorem dJ4_resize_148 : decode cJ4_resize 148 = .ok (.iconst 0, 1) := dk_3 (dk_at dksJ4_resize_6 7 rfl rfl)
theorem dJ4_resize_149 : decode cJ4_resize 149 = .ok (.istore 7, 2) := dk_54 7 (dk_at dksJ4_resize_6 8 rfl rfl)
theorem dJ4_resize_151 : decode cJ4_resize 151 = .ok (.iload 7, 2) := dk_21 7 (dk_at dksJ4_resize_6 10 rfl rfl)
theorem dJ4_resize_153 : decode cJ4_resize 153 = .ok (.iload_n 2, 1) := dk_28 (dk_at dksJ4_resize_6 12 rfl rfl)
theorem dJ4_resize_154 : decode cJ4_resize 154 = .ok (.if_icmp .ge 199, 3) := dk_162 0 199 (dk_at dksJ4_resize_6 13 rfl rfl)
theorem dJ4_resize_157 : decode cJ4_resize 157 = .ok (.aload_n 1, 1) := dk_43 (dk_at dksJ4_resize_6 16 rfl rfl)
theorem dJ4_resize_158 : decode cJ4_resize 158 = .ok (.iload 7, 2) := dk_21 7 (dk_at dksJ4_resize_6 17 rfl rfl)
theorem dJ4_resize_160 : decode cJ4_resize 160 = .ok (.aaload, 1) := dk_50 (dk_at dksJ4_resize_6 19 rfl rfl)
theorem dJ4_resize_161 : decode cJ4_resize 161 = .ok (.dup, 1) := dk_89 (dk_at dksJ4_resize_6 20 rfl rfl)
theorem dJ4_resize_162 : decode cJ4_resize 162 = .ok (.astore 8, 2) := dk_58 8 (dk_at dksJ4_resize_6 21 rfl rfl)
theorem dJ4_resize_164 : decode cJ4_resize 164 = .ok (.ifnull 183, 3) := dk_198 0 183 (dk_at dksJ4_resize_7 0 rfl rfl)
theorem dJ4_resize_167 : decode cJ4_resize 167 = .ok (.aload_n 1, 1) := dk_43 (dk_at dksJ4_resize_7 3 rfl rfl)
theorem dJ4_resize_168 : decode cJ4_resize 168 = .ok (.iload 7, 2) := dk_21 7 (dk_at dksJ4_resize_7 4 rfl rfl)
theorem dJ4_resize_170 : decode cJ4_resize 170 = .ok (.aconst_null, 1) := dk_1 (dk_at dksJ4_resize_7 6 rfl rfl)
theorem dJ4_resize_171 : decode cJ4_resize 171 = .ok (.aastore, 1) := dk_83 (dk_at dksJ4_resize_7 7 rfl rfl)
theorem dJ4_resize_172 : decode cJ4_resize 172 = .ok (.aload 8, 2) := dk_25 8 (dk_at dksJ4_resize_7 8 rfl rfl)
theorem dJ4_resize_174 : decode cJ4_resize 174 = .ok (.getfield 177, 3) := dk_180 0 177 (dk_at dksJ4_resize_7 10 rfl rfl)
theorem dJ4_resize_177 : decode cJ4_resize 177 = .ok (.ifnonnull 21, 3) := dk_199 0 21 (dk_at dksJ4_resize_7 13 rfl rfl)
theorem dJ4_resize_180 : decode cJ4_resize 180 = .ok (.aload 6, 2) := dk_25 6 (dk_at dksJ4_resize_7 16 rfl rfl)
theorem dJ4_resize_182 : decode cJ4_resize 182 = .ok (.aload 8, 2) := dk_25 8 (dk_at dksJ4_resize_7 18 rfl rfl)
theorem dJ4_resize_184 : decode cJ4_resize 184 = .ok (.getfield 168, 3) := dk_180 0 168 (dk_at dksJ4_resize_7 20 rfl rfl)
theorem dJ4_resize_187 : decode cJ4_resize 187 = .ok (.iload 4, 2) := dk_21 4 (dk_at dksJ4_resize_8 0 rfl rfl)
theorem dJ4_resize_189 : decode cJ4_resize 189 = .ok (.iconst 1, 1) := dk_4 (dk_at dksJ4_resize_8 2 rfl rfl)
theorem dJ4_resize_190 : decode cJ4_resize 190 = .ok (.isub, 1) := dk_100 (dk_at dksJ4_resize_8 3 rfl rfl)
theorem dJ4_resize_191 : decode cJ4_resize 191 = .ok (.iand, 1) := dk_126 (dk_at dksJ4_resize_8 4 rfl rfl)
theorem dJ4_resize_192 : decode cJ4_resize 192 = .ok (.aload 8, 2) := dk_25 8 (dk_at dksJ4_resize_8 5 rfl rfl)
theorem dJ4_resize_194 : decode cJ4_resize 194 = .ok (.aastore, 1) := dk_83 (dk_at dksJ4_resize_8 7 rfl rfl)
theorem dJ4_resize_195 : decode cJ4_resize 195 = .ok (.goto 152, 3) := dk_167 0 152 (dk_at dksJ4_resize_8 8 rfl rfl)
theorem dJ4_resize_198 : decode cJ4_resize 198 = .ok (.aload 8, 2) := dk_25 8 (dk_at dksJ4_resize_8 11 rfl rfl)
theorem dJ4_resize_200 : decode cJ4_resize 200 = .ok (.instanceof 180, 3) := dk_193 0 180 (dk_at dksJ4_resize_8 13 rfl rfl)
theorem dJ4_resize_203 : decode cJ4_resize 203 = .ok (.ifCond .eq 20, 3) := dk_153 0 20 (dk_at dksJ4_resize_8 16 rfl rfl)
theorem dJ4_resize_206 : decode cJ4_resize 206 = .ok (.aload 8, 2) := dk_25 8 (dk_at dksJ4_resize_8 19 rfl rfl)
theorem dJ4_resize_208 : decode cJ4_resize 208 = .ok (.checkcast 180, 3) := dk_192 0 180 (dk_at dksJ4_resize_8 21 rfl rfl)
theorem dJ4_resize_211 : decode cJ4_resize 211 = .ok (.aload_n 0, 1) := dk_42 (dk_at dksJ4_resize_9 0 rfl rfl)
theorem dJ4_resize_212 : decode cJ4_resize 212 = .ok (.aload 6, 2) := dk_25 6 (dk_at dksJ4_resize_9 1 rfl rfl)
theorem dJ4_resize_214 : decode cJ4_resize 214 = .ok (.iload 7, 2) := dk_21 7 (dk_at dksJ4_resize_9 3 rfl rfl)
theorem dJ4_resize_216 : decode cJ4_resize 216 = .ok (.iload_n 2, 1) := dk_28 (dk_at dksJ4_resize_9 5 rfl rfl)
theorem dJ4_resize_217 : decode cJ4_resize 217 = .ok (.invokevirtual 211, 3) := dk_182 0 211 (dk_at dksJ4_resize_9 6 rfl rfl)
theorem dJ4_resize_220 : decode cJ4_resize 220 = .ok (.goto 127, 3) := dk_167 0 127 (dk_at dksJ4_resize_9 9 rfl rfl)
theorem dJ4_resize_223 : decode cJ4_resize 223 = .ok (.aconst_null, 1) := dk_1 (dk_at dksJ4_resize_9 12 rfl rfl)
theorem dJ4_resize_224 : decode cJ4_resize 224 = .ok (.astore 9, 2) := dk_58 9 (dk_at dksJ4_resize_9 13 rfl rfl)
theorem dJ4_resize_226 : decode cJ4_resize 226 = .ok (.aconst_null, 1) := dk_1 (dk_at dksJ4_resize_9 15 rfl rfl)
theorem dJ4_resize_227 : decode cJ4_resize 227 = .ok (.astore 10, 2) := dk_58 10 (dk_at dksJ4_resize_9 16 rfl rfl)
theorem dJ4_resize_229 : decode cJ4_resize 229 = .ok (.aconst_null, 1) := dk_1 (dk_at dksJ4_resize_9 18 rfl rfl)
theorem dJ4_resize_230 : decode cJ4_resize 230 = .ok (.astore 11, 2) := dk_58 11 (dk_at dksJ4_resize_9 19 rfl rfl)
theorem dJ4_resize_232 : decode cJ4_resize 232 = .ok (.aconst_null, 1) := dk_1 (dk_at dksJ4_resize_9 21 rfl rfl)
theorem dJ4_resize_233 : decode cJ4_resize 233 = .ok (.astore 12, 2) := dk_58 12 (dk_at dksJ4_resize_9 22 rfl rfl)
theorem dJ4_resize_235 : decode cJ4_resize 235 = .ok (.aload 8, 2) := dk_25 8 (dk_at dksJ4_resize_10 0 rfl rfl)
theorem dJ4_resize_237 : decode cJ4_resize 237 = .ok (.getfield 177, 3) := dk_180 0 177 (dk_at dksJ4_resize_10 2 rfl rfl)
theorem dJ4_resize_240 : decode cJ4_resize 240 = .ok (.astore 13, 2) := dk_58 13 (dk_at dksJ4_resize_10 5 rfl rfl)
theorem dJ4_resize_242 : decode cJ4_resize 242 = .ok (.aload 8, 2) := dk_25 8 (dk_at dksJ4_resize_10 7 rfl rfl)
theorem dJ4_resize_244 : decode cJ4_resize 244 = .ok (.getfield 168, 3) := dk_180 0 168 (dk_at dksJ4_resize_10 9 rfl rfl)
theorem dJ4_resize_247 : decode cJ4_resize 247 = .ok (.iload_n 2, 1) := dk_28 (dk_at dksJ4_resize_10 12 rfl rfl)
theorem dJ4_resize_248 : decode cJ4_resize 248 = .ok (.iand, 1) := dk_126 (dk_at dksJ4_resize_10 13 rfl rfl)
theorem dJ4_resize_249 : decode cJ4_resize 249 = .ok (.ifCond .ne 29, 3) := dk_154 0 29 (dk_at dksJ4_resize_10 14 rfl rfl)
theorem dJ4_resize_252 : decode cJ4_resize 252 = .ok (.aload 10, 2) := dk_25 10 (dk_at dksJ4_resize_10 17 rfl rfl)
theorem dJ4_resize_254 : decode cJ4_resize 254 = .ok (.ifnonnull 10, 3) := dk_199 0 10 (dk_at dksJ4_resize_10 19 rfl rfl)
theorem dJ4_resize_257 : decode cJ4_resize 257 = .ok (.aload 8, 2) := dk_25 8 (dk_at dksJ4_resize_10 22 rfl rfl)
theorem dJ4_resize_259 : decode cJ4_resize 259 = .ok (.astore 9, 2) := dk_58 9 (dk_at dksJ4_resize_11 0 rfl rfl)
theorem dJ4_resize_261 : decode cJ4_resize 261 = .ok (.goto 10, 3) := dk_167 0 10 (dk_at dksJ4_resize_11 2 rfl rfl)
theorem dJ4_resize_264 : decode cJ4_resize 264 = .ok (.aload 10, 2) := dk_25 10 (dk_at dksJ4_resize_11 5 rfl rfl)
theorem dJ4_resize_266 : decode cJ4_resize 266 = .ok (.aload 8, 2) := dk_25 8 (dk_at dksJ4_resize_11 7 rfl rfl)
theorem dJ4_resize_268 : decode cJ4_resize 268 = .ok (.putfield 177, 3) := dk_181 0 177 (dk_at dksJ4_resize_11 9 rfl rfl)
theorem dJ4_resize_271 : decode cJ4_resize 271 = .ok (.aload 8, 2) := dk_25 8 (dk_at dksJ4_resize_11 12 rfl rfl)
theorem dJ4_resize_273 : decode cJ4_resize 273 = .ok (.astore 10, 2) := dk_58 10 (dk_at dksJ4_resize_11 14 rfl rfl)
theorem dJ4_resize_275 : decode cJ4_resize 275 = .ok (.goto 26, 3) := dk_167 0 26 (dk_at dksJ4_resize_11 16 rfl rfl)
theorem dJ4_resize_278 : decode cJ4_resize 278 = .ok (.aload 12, 2) := dk_25 12 (dk_at dksJ4_resize_11 19 rfl rfl)
theorem dJ4_resize_280 : decode cJ4_resize 280 = .ok (.ifnonnull 10, 3) := dk_199 0 10 (dk_at dksJ4_resize_11 21 rfl rfl)
theorem dJ4_resize_283 : decode cJ4_resize 283 = .ok (.aload 8, 2) := dk_25 8 (dk_at dksJ4_resize_12 0 rfl rfl)
theorem dJ4_resize_285 : decode cJ4_resize 285 = .ok (.astore 11, 2) := dk_58 11 (dk_at dksJ4_resize_12 2 rfl rfl)
theorem dJ4_resize_287 : decode cJ4_resize 287 = .ok (.goto 10, 3) := dk_167 0 10 (dk_at dksJ4_resize_12 4 rfl rfl)
theorem dJ4_resize_290 : decode cJ4_resize 290 = .ok (.aload 12, 2) := dk_25 12 (dk_at dksJ4_resize_12 7 rfl rfl)
theorem dJ4_resize_292 : decode cJ4_resize 292 = .ok (.aload 8, 2) := dk_25 8 (dk_at dksJ4_resize_12 9 rfl rfl)
theorem dJ4_resize_294 : decode cJ4_resize 294 = .ok (.putfield 177, 3) := dk_181 0 177 (dk_at dksJ4_resize_12 11 rfl rfl)
theorem dJ4_resize_297 : decode cJ4_resize 297 = .ok (.aload 8, 2) := dk_25 8 (dk_at dksJ4_resize_12 14 rfl rfl)
theorem dJ4_resize_299 : decode cJ4_resize 299 = .ok (.astore 12, 2) := dk_58 12 (dk_at dksJ4_resize_12 16 rfl rfl)
theorem dJ4_resize_301 : decode cJ4_resize 301 = .ok (.aload 13, 2) := dk_25 13 (dk_at dksJ4_resize_12 18 rfl rfl)
theorem dJ4_resize_303 : decode cJ4_resize 303 = .ok (.dup, 1) := dk_89 (dk_at dksJ4_resize_12 20 rfl rfl)
theorem dJ4_resize_304 : decode cJ4_resize 304 = .ok (.astore 8, 2) := dk_58 8 (dk_at dksJ4_resize_12 21 rfl rfl)
theorem dJ4_resize_306 : decode cJ4_resize 306 = .ok (.ifnonnull (-71), 3) := dk_199 255 185 (dk_at dksJ4_resize_13 0 rfl rfl)
theorem dJ4_resize_309 : decode cJ4_resize 309 = .ok (.aload 10, 2) := dk_25 10 (dk_at dksJ4_resize_13 3 rfl rfl)
theorem dJ4_resize_311 : decode cJ4_resize 311 = .ok (.ifnull 16, 3) := dk_198 0 16 (dk_at dksJ4_resize_13 5 rfl rfl)
theorem dJ4_resize_314 : decode cJ4_resize 314 = .ok (.aload 10, 2) := dk_25 10 (dk_at dksJ4_resize_13 8 rfl rfl)
theorem dJ4_resize_316 : decode cJ4_resize 316 = .ok (.aconst_null, 1) := dk_1 (dk_at dksJ4_resize_13 10 rfl rfl)
theorem dJ4_resize_317 : decode cJ4_resize 317 = .ok (.putfield 177, 3) := dk_181 0 177 (dk_at dksJ4_resize_13 11 rfl rfl)
theorem dJ4_resize_320 : decode cJ4_resize 320 = .ok (.aload 6, 2) := dk_25 6 (dk_at dksJ4_resize_13 14 rfl rfl)
theorem dJ4_resize_322 : decode cJ4_resize 322 = .ok (.iload 7, 2) := dk_21 7 (dk_at dksJ4_resize_13 16 rfl rfl)
theorem dJ4_resize_324 : decode cJ4_resize 324 = .ok (.aload 9, 2) := dk_25 9 (dk_at dksJ4_resize_13 18 rfl rfl)
theorem dJ4_resize_326 : decode cJ4_resize 326 = .ok (.aastore, 1) := dk_83 (dk_at dksJ4_resize_13 20 rfl rfl)
theorem dJ4_resize_327 : decode cJ4_resize 327 = .ok (.aload 12, 2) := dk_25 12 (dk_at dksJ4_resize_13 21 rfl rfl)
theorem dJ4_resize_329 : decode cJ4_resize 329 = .ok (.ifnull 18, 3) := dk_198 0 18 (dk_at dksJ4_resize_14 0 rfl rfl)
theorem dJ4_resize_332 : decode cJ4_resize 332 = .ok (.aload 12, 2) := dk_25 12 (dk_at dksJ4_resize_14 3 rfl rfl)
theorem dJ4_resize_334 : decode cJ4_resize 334 = .ok (.aconst_null, 1) := dk_1 (dk_at dksJ4_resize_14 5 rfl rfl)
theorem dJ4_resize_335 : decode cJ4_resize 335 = .ok (.putfield 177, 3) := dk_181 0 177 (dk_at dksJ4_resize_14 6 rfl rfl)
theorem dJ4_resize_338 : decode cJ4_resize 338 = .ok (.aload 6, 2) := dk_25 6 (dk_at dksJ4_resize_14 9 rfl rfl)
theorem dJ4_resize_340 : decode cJ4_resize 340 = .ok (.iload 7, 2) := dk_21 7 (dk_at dksJ4_resize_14 11 rfl rfl)
theorem dJ4_resize_342 : decode cJ4_resize 342 = .ok (.iload_n 2, 1) := dk_28 (dk_at dksJ4_resize_14 13 rfl rfl)
theorem dJ4_resize_343 : decode cJ4_resize 343 = .ok (.iadd, 1) := dk_96 (dk_at dksJ4_resize_14 14 rfl rfl)
theorem dJ4_resize_344 : decode cJ4_resize 344 = .ok (.aload 11, 2) := dk_25 11 (dk_at dksJ4_resize_14 15 rfl rfl)
theorem dJ4_resize_346 : decode cJ4_resize 346 = .ok (.aastore, 1) := dk_83 (dk_at dksJ4_resize_14 17 rfl rfl)
theorem dJ4_resize_347 : decode cJ4_resize 347 = .ok (.iinc 7 1, 3) := dk_132 7 1 (dk_at dksJ4_resize_14 18 rfl rfl)
theorem dJ4_resize_350 : decode cJ4_resize 350 = .ok (.goto (-199), 3) := dk_167 255 57 (dk_at dksJ4_resize_14 21 rfl rfl)
theorem dJ4_resize_353 : decode cJ4_resize 353 = .ok (.aload 6, 2) := dk_25 6 (dk_at dksJ4_resize_15 0 rfl rfl)
theorem dJ4_resize_355 : decode cJ4_resize 355 = .ok (.areturn, 1) := dk_176 (dk_at dksJ4_resize_15 2 rfl rfl)
abbrev cJ4_newNode : ByteArray := prog_43_method_46_code
def yJ4_newNode : MethodName := ⟨RJ4, "newNode", "(ILjava/lang/Object;Ljava/lang/Object;Ljava/util/HashMap$Node;)Ljava/util/HashMap$Node;"⟩
def dkwJ4_newNode_0 : List UInt8 := [187, 0, 163, 89, 27, 44, 45, 25, 4, 183, 1, 119, 176]
abbrev dktJ4_newNode_0 : List UInt8 := dkwJ4_newNode_0 ++ []
theorem dksJ4_newNode_0 : cJ4_newNode.data.toList.drop 0 = dktJ4_newNode_0 := by decide +kernel
theorem dJ4_newNode_0 : decode cJ4_newNode 0 = .ok (.new 163, 3) := dk_187 0 163 (dk_at dksJ4_newNode_0 0 rfl rfl)
theorem dJ4_newNode_3 : decode cJ4_newNode 3 = .ok (.dup, 1) := dk_89 (dk_at dksJ4_newNode_0 3 rfl rfl)
theorem dJ4_newNode_4 : decode cJ4_newNode 4 = .ok (.iload_n 1, 1) := dk_27 (dk_at dksJ4_newNode_0 4 rfl rfl)
theorem dJ4_newNode_5 : decode cJ4_newNode 5 = .ok (.aload_n 2, 1) := dk_44 (dk_at dksJ4_newNode_0 5 rfl rfl)
theorem dJ4_newNode_6 : decode cJ4_newNode 6 = .ok (.aload_n 3, 1) := dk_45 (dk_at dksJ4_newNode_0 6 rfl rfl)
theorem dJ4_newNode_7 : decode cJ4_newNode 7 = .ok (.aload 4, 2) := dk_25 4 (dk_at dksJ4_newNode_0 7 rfl rfl)
theorem dJ4_newNode_9 : decode cJ4_newNode 9 = .ok (.invokespecial 375, 3) := dk_183 1 119 (dk_at dksJ4_newNode_0 9 rfl rfl)
theorem dJ4_newNode_12 : decode cJ4_newNode 12 = .ok (.areturn, 1) := dk_176 (dk_at dksJ4_newNode_0 12 rfl rfl)
abbrev cJ4_afterNodeAccess : ByteArray := prog_43_method_51_code
def yJ4_afterNodeAccess : MethodName := ⟨RJ4, "afterNodeAccess", "(Ljava/util/HashMap$Node;)V"⟩
theorem dJ4_afterNodeAccess_0 : decode cJ4_afterNodeAccess 0 = .ok (.return_, 1) := by decide +kernel
abbrev cJ4_afterNodeInsertion : ByteArray := prog_43_method_52_code
def yJ4_afterNodeInsertion : MethodName := ⟨RJ4, "afterNodeInsertion", "(Z)V"⟩
theorem dJ4_afterNodeInsertion_0 : decode cJ4_afterNodeInsertion 0 = .ok (.return_, 1) := by decide +kernel
abbrev cJ4_remove : ByteArray := prog_43_method_20_code
def yJ4_remove : MethodName := ⟨RJ4, "remove", "(Ljava/lang/Object;)Ljava/lang/Object;"⟩
def dkwJ4_remove_1 : List UInt8 := [180, 0, 162, 176]
abbrev dktJ4_remove_1 : List UInt8 := dkwJ4_remove_1 ++ []
def dkwJ4_remove_0 : List UInt8 := [42, 43, 184, 0, 149, 43, 1, 3, 4, 182, 0, 228, 89, 77, 199, 0, 7, 1, 167, 0, 7, 44]
abbrev dktJ4_remove_0 : List UInt8 := dkwJ4_remove_0 ++ dktJ4_remove_1
theorem dksJ4_remove_0 : cJ4_remove.data.toList.drop 0 = dktJ4_remove_0 := by decide +kernel
theorem dksJ4_remove_1 : cJ4_remove.data.toList.drop 22 = dktJ4_remove_1 := dk_seg dksJ4_remove_0 22 rfl rfl
theorem dJ4_remove_0 : decode cJ4_remove 0 = .ok (.aload_n 0, 1) := dk_42 (dk_at dksJ4_remove_0 0 rfl rfl)
theorem dJ4_remove_1 : decode cJ4_remove 1 = .ok (.aload_n 1, 1) := dk_43 (dk_at dksJ4_remove_0 1 rfl rfl)
theorem dJ4_remove_2 : decode cJ4_remove 2 = .ok (.invokestatic 149, 3) := dk_184 0 149 (dk_at dksJ4_remove_0 2 rfl rfl)
theorem dJ4_remove_5 : decode cJ4_remove 5 = .ok (.aload_n 1, 1) := dk_43 (dk_at dksJ4_remove_0 5 rfl rfl)
theorem dJ4_remove_6 : decode cJ4_remove 6 = .ok (.aconst_null, 1) := dk_1 (dk_at dksJ4_remove_0 6 rfl rfl)
theorem dJ4_remove_7 : decode cJ4_remove 7 = .ok (.iconst 0, 1) := dk_3 (dk_at dksJ4_remove_0 7 rfl rfl)
theorem dJ4_remove_8 : decode cJ4_remove 8 = .ok (.iconst 1, 1) := dk_4 (dk_at dksJ4_remove_0 8 rfl rfl)
theorem dJ4_remove_9 : decode cJ4_remove 9 = .ok (.invokevirtual 228, 3) := dk_182 0 228 (dk_at dksJ4_remove_0 9 rfl rfl)
theorem dJ4_remove_12 : decode cJ4_remove 12 = .ok (.dup, 1) := dk_89 (dk_at dksJ4_remove_0 12 rfl rfl)
theorem dJ4_remove_13 : decode cJ4_remove 13 = .ok (.astore_n 2, 1) := dk_77 (dk_at dksJ4_remove_0 13 rfl rfl)
theorem dJ4_remove_14 : decode cJ4_remove 14 = .ok (.ifnonnull 7, 3) := dk_199 0 7 (dk_at dksJ4_remove_0 14 rfl rfl)
theorem dJ4_remove_17 : decode cJ4_remove 17 = .ok (.aconst_null, 1) := dk_1 (dk_at dksJ4_remove_0 17 rfl rfl)
theorem dJ4_remove_18 : decode cJ4_remove 18 = .ok (.goto 7, 3) := dk_167 0 7 (dk_at dksJ4_remove_0 18 rfl rfl)
theorem dJ4_remove_21 : decode cJ4_remove 21 = .ok (.aload_n 2, 1) := dk_44 (dk_at dksJ4_remove_0 21 rfl rfl)
theorem dJ4_remove_22 : decode cJ4_remove 22 = .ok (.getfield 162, 3) := dk_180 0 162 (dk_at dksJ4_remove_1 0 rfl rfl)
theorem dJ4_remove_25 : decode cJ4_remove 25 = .ok (.areturn, 1) := dk_176 (dk_at dksJ4_remove_1 3 rfl rfl)
abbrev cJ4_removeNode : ByteArray := prog_43_method_21_code
def yJ4_removeNode : MethodName := ⟨RJ4, "removeNode", "(ILjava/lang/Object;Ljava/lang/Object;ZZ)Ljava/util/HashMap$Node;"⟩
def dkwJ4_removeNode_12 : List UInt8 := [181, 0, 156, 42, 25, 10, 182, 0, 236, 25, 10, 176, 1, 176]
abbrev dktJ4_removeNode_12 : List UInt8 := dkwJ4_removeNode_12 ++ []
def dkwJ4_removeNode_11 : List UInt8 := [180, 0, 177, 181, 0, 177, 42, 89, 180, 0, 202, 4, 96, 181, 0, 202, 42, 89, 180, 0, 156, 4, 100]
abbrev dktJ4_removeNode_11 : List UInt8 := dkwJ4_removeNode_11 ++ dktJ4_removeNode_12
def dkwJ4_removeNode_10 : List UInt8 := [25, 10, 25, 7, 166, 0, 16, 25, 6, 21, 9, 25, 10, 180, 0, 177, 83, 167, 0, 13, 25, 7, 25, 10]
abbrev dktJ4_removeNode_10 : List UInt8 := dkwJ4_removeNode_10 ++ dktJ4_removeNode_11
def dkwJ4_removeNode_9 : List UInt8 := [25, 10, 193, 0, 180, 153, 0, 19, 25, 10, 192, 0, 180, 42, 25, 6, 21, 5, 182, 0, 232, 167, 0, 33]
abbrev dktJ4_removeNode_9 : List UInt8 := dkwJ4_removeNode_9 ++ dktJ4_removeNode_10
def dkwJ4_removeNode_8 : List UInt8 := [180, 0, 162, 89, 58, 13, 45, 165, 0, 16, 45, 198, 0, 95, 45, 25, 13, 182, 0, 173, 153, 0, 86]
abbrev dktJ4_removeNode_8 : List UInt8 := dkwJ4_removeNode_8 ++ dktJ4_removeNode_9
def dkwJ4_removeNode_7 : List UInt8 := [25, 11, 180, 0, 177, 89, 58, 11, 199, 255, 203, 25, 10, 198, 0, 116, 21, 4, 153, 0, 28, 25, 10]
abbrev dktJ4_removeNode_7 : List UInt8 := dkwJ4_removeNode_7 ++ dktJ4_removeNode_8
def dkwJ4_removeNode_6 : List UInt8 := [198, 0, 19, 44, 25, 12, 182, 0, 173, 153, 0, 10, 25, 11, 58, 10, 167, 0, 18, 25, 11, 58, 7]
abbrev dktJ4_removeNode_6 : List UInt8 := dkwJ4_removeNode_6 ++ dktJ4_removeNode_7
def dkwJ4_removeNode_5 : List UInt8 := [25, 11, 180, 0, 168, 27, 160, 0, 35, 25, 11, 180, 0, 170, 89, 58, 12, 44, 165, 0, 16, 44]
abbrev dktJ4_removeNode_5 : List UInt8 := dkwJ4_removeNode_5 ++ dktJ4_removeNode_6
def dkwJ4_removeNode_4 : List UInt8 := [25, 7, 193, 0, 180, 153, 0, 18, 25, 7, 192, 0, 180, 27, 44, 182, 0, 182, 58, 10, 167, 0, 59]
abbrev dktJ4_removeNode_4 : List UInt8 := dkwJ4_removeNode_4 ++ dktJ4_removeNode_5
def dkwJ4_removeNode_3 : List UInt8 := [182, 0, 173, 153, 0, 10, 25, 7, 58, 10, 167, 0, 93, 25, 7, 180, 0, 177, 89, 58, 11, 198, 0, 82]
abbrev dktJ4_removeNode_3 : List UInt8 := dkwJ4_removeNode_3 ++ dktJ4_removeNode_4
def dkwJ4_removeNode_2 : List UInt8 := [160, 0, 35, 25, 7, 180, 0, 170, 89, 58, 12, 44, 165, 0, 16, 44, 198, 0, 19, 44, 25, 12]
abbrev dktJ4_removeNode_2 : List UInt8 := dkwJ4_removeNode_2 ++ dktJ4_removeNode_3
def dkwJ4_removeNode_1 : List UInt8 := [100, 27, 126, 89, 54, 9, 50, 89, 58, 7, 198, 0, 255, 1, 58, 10, 25, 7, 180, 0, 168, 27]
abbrev dktJ4_removeNode_1 : List UInt8 := dkwJ4_removeNode_1 ++ dktJ4_removeNode_2
def dkwJ4_removeNode_0 : List UInt8 := [42, 180, 0, 105, 89, 58, 6, 198, 1, 26, 25, 6, 190, 89, 54, 8, 158, 1, 17, 25, 6, 21, 8, 4]
abbrev dktJ4_removeNode_0 : List UInt8 := dkwJ4_removeNode_0 ++ dktJ4_removeNode_1
theorem dksJ4_removeNode_0 : cJ4_removeNode.data.toList.drop 0 = dktJ4_removeNode_0 := by decide +kernel
theorem dksJ4_removeNode_1 : cJ4_removeNode.data.toList.drop 24 = dktJ4_removeNode_1 := dk_seg dksJ4_removeNode_0 24 rfl rfl
theorem dksJ4_removeNode_2 : cJ4_removeNode.data.toList.drop 46 = dktJ4_removeNode_2 := dk_seg dksJ4_removeNode_1 22 rfl rfl
theorem dksJ4_removeNode_3 : cJ4_removeNode.data.toList.drop 68 = dktJ4_removeNode_3 := dk_seg dksJ4_removeNode_2 22 rfl rfl
theorem dksJ4_removeNode_4 : cJ4_removeNode.data.toList.drop 92 = dktJ4_removeNode_4 := dk_seg dksJ4_removeNode_3 24 rfl rfl
theorem dksJ4_removeNode_5 : cJ4_removeNode.data.toList.drop 115 = dktJ4_removeNode_5 := dk_seg dksJ4_removeNode_4 23 rfl rfl
theorem dksJ4_removeNode_6 : cJ4_removeNode.data.toList.drop 137 = dktJ4_removeNode_6 := dk_seg dksJ4_removeNode_5 22 rfl rfl
theorem dksJ4_removeNode_7 : cJ4_removeNode.data.toList.drop 160 = dktJ4_removeNode_7 := dk_seg dksJ4_removeNode_6 23 rfl rfl
theorem dksJ4_removeNode_8 : cJ4_removeNode.data.toList.drop 183 = dktJ4_removeNode_8 := dk_seg dksJ4_removeNode_7 23 rfl rfl
theorem dksJ4_removeNode_9 : cJ4_removeNode.data.toList.drop 206 = dktJ4_removeNode_9 := dk_seg dksJ4_removeNode_8 23 rfl rfl
theorem dksJ4_removeNode_10 : cJ4_removeNode.data.toList.drop 230 = dktJ4_removeNode_10 := dk_seg dksJ4_removeNode_9 24 rfl rfl
theorem dksJ4_removeNode_11 : cJ4_removeNode.data.toList.drop 254 = dktJ4_removeNode_11 := dk_seg dksJ4_removeNode_10 24 rfl rfl
theorem dksJ4_removeNode_12 : cJ4_removeNode.data.toList.drop 277 = dktJ4_removeNode_12 := dk_seg dksJ4_removeNode_11 23 rfl rfl
theorem dJ4_removeNode_0 : decode cJ4_removeNode 0 = .ok (.aload_n 0, 1) := dk_42 (dk_at dksJ4_removeNode_0 0 rfl rfl)
theorem dJ4_removeNode_1 : decode cJ4_removeNode 1 = .ok (.getfield 105, 3) := dk_180 0 105 (dk_at dksJ4_removeNode_0 1 rfl rfl)
theorem dJ4_removeNode_4 : decode cJ4_removeNode 4 = .ok (.dup, 1) := dk_89 (dk_at dksJ4_removeNode_0 4 rfl rfl)
theorem dJ4_removeNode_5 : decode cJ4_removeNode 5 = .ok (.astore 6, 2) := dk_58 6 (dk_at dksJ4_removeNode_0 5 rfl rfl)
theorem dJ4_removeNode_7 : decode cJ4_removeNode 7 = .ok (.ifnull 282, 3) := dk_198 1 26 (dk_at dksJ4_removeNode_0 7 rfl rfl)
theorem dJ4_removeNode_10 : decode cJ4_removeNode 10 = .ok (.aload 6, 2) := dk_25 6 (dk_at dksJ4_removeNode_0 10 rfl rfl)
theorem dJ4_removeNode_12 : decode cJ4_removeNode 12 = .ok (.arraylength, 1) := dk_190 (dk_at dksJ4_removeNode_0 12 rfl rfl)
theorem dJ4_removeNode_13 : decode cJ4_removeNode 13 = .ok (.dup, 1) := dk_89 (dk_at dksJ4_removeNode_0 13 rfl rfl)
theorem dJ4_removeNode_14 : decode cJ4_removeNode 14 = .ok (.istore 8, 2) := dk_54 8 (dk_at dksJ4_removeNode_0 14 rfl rfl)
theorem dJ4_removeNode_16 : decode cJ4_removeNode 16 = .ok (.ifCond .le 273, 3) := dk_158 1 17 (dk_at dksJ4_removeNode_0 16 rfl rfl)
theorem dJ4_removeNode_19 : decode cJ4_removeNode 19 = .ok (.aload 6, 2) := dk_25 6 (dk_at dksJ4_removeNode_0 19 rfl rfl)
theorem dJ4_removeNode_21 : decode cJ4_removeNode 21 = .ok (.iload 8, 2) := dk_21 8 (dk_at dksJ4_removeNode_0 21 rfl rfl)
theorem dJ4_removeNode_23 : decode cJ4_removeNode 23 = .ok (.iconst 1, 1) := dk_4 (dk_at dksJ4_removeNode_0 23 rfl rfl)
theorem dJ4_removeNode_24 : decode cJ4_removeNode 24 = .ok (.isub, 1) := dk_100 (dk_at dksJ4_removeNode_1 0 rfl rfl)
theorem dJ4_removeNode_25 : decode cJ4_removeNode 25 = .ok (.iload_n 1, 1) := dk_27 (dk_at dksJ4_removeNode_1 1 rfl rfl)
theorem dJ4_removeNode_26 : decode cJ4_removeNode 26 = .ok (.iand, 1) := dk_126 (dk_at dksJ4_removeNode_1 2 rfl rfl)
theorem dJ4_removeNode_27 : decode cJ4_removeNode 27 = .ok (.dup, 1) := dk_89 (dk_at dksJ4_removeNode_1 3 rfl rfl)
theorem dJ4_removeNode_28 : decode cJ4_removeNode 28 = .ok (.istore 9, 2) := dk_54 9 (dk_at dksJ4_removeNode_1 4 rfl rfl)
theorem dJ4_removeNode_30 : decode cJ4_removeNode 30 = .ok (.aaload, 1) := dk_50 (dk_at dksJ4_removeNode_1 6 rfl rfl)
theorem dJ4_removeNode_31 : decode cJ4_removeNode 31 = .ok (.dup, 1) := dk_89 (dk_at dksJ4_removeNode_1 7 rfl rfl)
theorem dJ4_removeNode_32 : decode cJ4_removeNode 32 = .ok (.astore 7, 2) := dk_58 7 (dk_at dksJ4_removeNode_1 8 rfl rfl)
theorem dJ4_removeNode_34 : decode cJ4_removeNode 34 = .ok (.ifnull 255, 3) := dk_198 0 255 (dk_at dksJ4_removeNode_1 10 rfl rfl)
theorem dJ4_removeNode_37 : decode cJ4_removeNode 37 = .ok (.aconst_null, 1) := dk_1 (dk_at dksJ4_removeNode_1 13 rfl rfl)
theorem dJ4_removeNode_38 : decode cJ4_removeNode 38 = .ok (.astore 10, 2) := dk_58 10 (dk_at dksJ4_removeNode_1 14 rfl rfl)
theorem dJ4_removeNode_40 : decode cJ4_removeNode 40 = .ok (.aload 7, 2) := dk_25 7 (dk_at dksJ4_removeNode_1 16 rfl rfl)
theorem dJ4_removeNode_42 : decode cJ4_removeNode 42 = .ok (.getfield 168, 3) := dk_180 0 168 (dk_at dksJ4_removeNode_1 18 rfl rfl)
theorem dJ4_removeNode_45 : decode cJ4_removeNode 45 = .ok (.iload_n 1, 1) := dk_27 (dk_at dksJ4_removeNode_1 21 rfl rfl)
theorem dJ4_removeNode_46 : decode cJ4_removeNode 46 = .ok (.if_icmp .ne 35, 3) := dk_160 0 35 (dk_at dksJ4_removeNode_2 0 rfl rfl)
theorem dJ4_removeNode_49 : decode cJ4_removeNode 49 = .ok (.aload 7, 2) := dk_25 7 (dk_at dksJ4_removeNode_2 3 rfl rfl)
theorem dJ4_removeNode_51 : decode cJ4_removeNode 51 = .ok (.getfield 170, 3) := dk_180 0 170 (dk_at dksJ4_removeNode_2 5 rfl rfl)
theorem dJ4_removeNode_54 : decode cJ4_removeNode 54 = .ok (.dup, 1) := dk_89 (dk_at dksJ4_removeNode_2 8 rfl rfl)
theorem dJ4_removeNode_55 : decode cJ4_removeNode 55 = .ok (.astore 12, 2) := dk_58 12 (dk_at dksJ4_removeNode_2 9 rfl rfl)
theorem dJ4_removeNode_57 : decode cJ4_removeNode 57 = .ok (.aload_n 2, 1) := dk_44 (dk_at dksJ4_removeNode_2 11 rfl rfl)
theorem dJ4_removeNode_58 : decode cJ4_removeNode 58 = .ok (.if_acmp .eq 16, 3) := dk_165 0 16 (dk_at dksJ4_removeNode_2 12 rfl rfl)
theorem dJ4_removeNode_61 : decode cJ4_removeNode 61 = .ok (.aload_n 2, 1) := dk_44 (dk_at dksJ4_removeNode_2 15 rfl rfl)
theorem dJ4_removeNode_62 : decode cJ4_removeNode 62 = .ok (.ifnull 19, 3) := dk_198 0 19 (dk_at dksJ4_removeNode_2 16 rfl rfl)
theorem dJ4_removeNode_65 : decode cJ4_removeNode 65 = .ok (.aload_n 2, 1) := dk_44 (dk_at dksJ4_removeNode_2 19 rfl rfl)
theorem dJ4_removeNode_66 : decode cJ4_removeNode 66 = .ok (.aload 12, 2) := dk_25 12 (dk_at dksJ4_removeNode_2 20 rfl rfl)
theorem dJ4_removeNode_68 : decode cJ4_removeNode 68 = .ok (.invokevirtual 173, 3) := dk_182 0 173 (dk_at dksJ4_removeNode_3 0 rfl rfl)
theorem dJ4_removeNode_71 : decode cJ4_removeNode 71 = .ok (.ifCond .eq 10, 3) := dk_153 0 10 (dk_at dksJ4_removeNode_3 3 rfl rfl)
theorem dJ4_removeNode_74 : decode cJ4_removeNode 74 = .ok (.aload 7, 2) := dk_25 7 (dk_at dksJ4_removeNode_3 6 rfl rfl)
theorem dJ4_removeNode_76 : decode cJ4_removeNode 76 = .ok (.astore 10, 2) := dk_58 10 (dk_at dksJ4_removeNode_3 8 rfl rfl)
theorem dJ4_removeNode_78 : decode cJ4_removeNode 78 = .ok (.goto 93, 3) := dk_167 0 93 (dk_at dksJ4_removeNode_3 10 rfl rfl)
theorem dJ4_removeNode_81 : decode cJ4_removeNode 81 = .ok (.aload 7, 2) := dk_25 7 (dk_at dksJ4_removeNode_3 13 rfl rfl)
theorem dJ4_removeNode_83 : decode cJ4_removeNode 83 = .ok (.getfield 177, 3) := dk_180 0 177 (dk_at dksJ4_removeNode_3 15 rfl rfl)
theorem dJ4_removeNode_86 : decode cJ4_removeNode 86 = .ok (.dup, 1) := dk_89 (dk_at dksJ4_removeNode_3 18 rfl rfl)
theorem dJ4_removeNode_87 : decode cJ4_removeNode 87 = .ok (.astore 11, 2) := dk_58 11 (dk_at dksJ4_removeNode_3 19 rfl rfl)
theorem dJ4_removeNode_89 : decode cJ4_removeNode 89 = .ok (.ifnull 82, 3) := dk_198 0 82 (dk_at dksJ4_removeNode_3 21 rfl rfl)
theorem dJ4_removeNode_92 : decode cJ4_removeNode 92 = .ok (.aload 7, 2) := dk_25 7 (dk_at dksJ4_removeNode_4 0 rfl rfl)
theorem dJ4_removeNode_94 : decode cJ4_removeNode 94 = .ok (.instanceof 180, 3) := dk_193 0 180 (dk_at dksJ4_removeNode_4 2 rfl rfl)
theorem dJ4_removeNode_97 : decode cJ4_removeNode 97 = .ok (.ifCond .eq 18, 3) := dk_153 0 18 (dk_at dksJ4_removeNode_4 5 rfl rfl)
theorem dJ4_removeNode_100 : decode cJ4_removeNode 100 = .ok (.aload 7, 2) := dk_25 7 (dk_at dksJ4_removeNode_4 8 rfl rfl)
theorem dJ4_removeNode_102 : decode cJ4_removeNode 102 = .ok (.checkcast 180, 3) := dk_192 0 180 (dk_at dksJ4_removeNode_4 10 rfl rfl)
theorem dJ4_removeNode_105 : decode cJ4_removeNode 105 = .ok (.iload_n 1, 1) := dk_27 (dk_at dksJ4_removeNode_4 13 rfl rfl)
theorem dJ4_removeNode_106 : decode cJ4_removeNode 106 = .ok (.aload_n 2, 1) := dk_44 (dk_at dksJ4_removeNode_4 14 rfl rfl)
theorem dJ4_removeNode_107 : decode cJ4_removeNode 107 = .ok (.invokevirtual 182, 3) := dk_182 0 182 (dk_at dksJ4_removeNode_4 15 rfl rfl)
theorem dJ4_removeNode_110 : decode cJ4_removeNode 110 = .ok (.astore 10, 2) := dk_58 10 (dk_at dksJ4_removeNode_4 18 rfl rfl)
theorem dJ4_removeNode_112 : decode cJ4_removeNode 112 = .ok (.goto 59, 3) := dk_167 0 59 (dk_at dksJ4_removeNode_4 20 rfl rfl)
theorem dJ4_removeNode_115 : decode cJ4_removeNode 115 = .ok (.aload 11, 2) := dk_25 11 (dk_at dksJ4_removeNode_5 0 rfl rfl)
theorem dJ4_removeNode_117 : decode cJ4_removeNode 117 = .ok (.getfield 168, 3) := dk_180 0 168 (dk_at dksJ4_removeNode_5 2 rfl rfl)
theorem dJ4_removeNode_120 : decode cJ4_removeNode 120 = .ok (.iload_n 1, 1) := dk_27 (dk_at dksJ4_removeNode_5 5 rfl rfl)
theorem dJ4_removeNode_121 : decode cJ4_removeNode 121 = .ok (.if_icmp .ne 35, 3) := dk_160 0 35 (dk_at dksJ4_removeNode_5 6 rfl rfl)
theorem dJ4_removeNode_124 : decode cJ4_removeNode 124 = .ok (.aload 11, 2) := dk_25 11 (dk_at dksJ4_removeNode_5 9 rfl rfl)
theorem dJ4_removeNode_126 : decode cJ4_removeNode 126 = .ok (.getfield 170, 3) := dk_180 0 170 (dk_at dksJ4_removeNode_5 11 rfl rfl)
theorem dJ4_removeNode_129 : decode cJ4_removeNode 129 = .ok (.dup, 1) := dk_89 (dk_at dksJ4_removeNode_5 14 rfl rfl)
theorem dJ4_removeNode_130 : decode cJ4_removeNode 130 = .ok (.astore 12, 2) := dk_58 12 (dk_at dksJ4_removeNode_5 15 rfl rfl)
theorem dJ4_removeNode_132 : decode cJ4_removeNode 132 = .ok (.aload_n 2, 1) := dk_44 (dk_at dksJ4_removeNode_5 17 rfl rfl)
theorem dJ4_removeNode_133 : decode cJ4_removeNode 133 = .ok (.if_acmp .eq 16, 3) := dk_165 0 16 (dk_at dksJ4_removeNode_5 18 rfl rfl)
theorem dJ4_removeNode_136 : decode cJ4_removeNode 136 = .ok (.aload_n 2, 1) := dk_44 (dk_at dksJ4_removeNode_5 21 rfl rfl)
theorem dJ4_removeNode_137 : decode cJ4_removeNode 137 = .ok (.ifnull 19, 3) := dk_198 0 19 (dk_at dksJ4_removeNode_6 0 rfl rfl)
theorem dJ4_removeNode_140 : decode cJ4_removeNode 140 = .ok (.aload_n 2, 1) := dk_44 (dk_at dksJ4_removeNode_6 3 rfl rfl)
theorem dJ4_removeNode_141 : decode cJ4_removeNode 141 = .ok (.aload 12, 2) := dk_25 12 (dk_at dksJ4_removeNode_6 4 rfl rfl)
theorem dJ4_removeNode_143 : decode cJ4_removeNode 143 = .ok (.invokevirtual 173, 3) := dk_182 0 173 (dk_at dksJ4_removeNode_6 6 rfl rfl)
theorem dJ4_removeNode_146 : decode cJ4_removeNode 146 = .ok (.ifCond .eq 10, 3) := dk_153 0 10 (dk_at dksJ4_removeNode_6 9 rfl rfl)
theorem dJ4_removeNode_149 : decode cJ4_removeNode 149 = .ok (.aload 11, 2) := dk_25 11 (dk_at dksJ4_removeNode_6 12 rfl rfl)
theorem dJ4_removeNode_151 : decode cJ4_removeNode 151 = .ok (.astore 10, 2) := dk_58 10 (dk_at dksJ4_removeNode_6 14 rfl rfl)
theorem dJ4_removeNode_153 : decode cJ4_removeNode 153 = .ok (.goto 18, 3) := dk_167 0 18 (dk_at dksJ4_removeNode_6 16 rfl rfl)
theorem dJ4_removeNode_156 : decode cJ4_removeNode 156 = .ok (.aload 11, 2) := dk_25 11 (dk_at dksJ4_removeNode_6 19 rfl rfl)
theorem dJ4_removeNode_158 : decode cJ4_removeNode 158 = .ok (.astore 7, 2) := dk_58 7 (dk_at dksJ4_removeNode_6 21 rfl rfl)
theorem dJ4_removeNode_160 : decode cJ4_removeNode 160 = .ok (.aload 11, 2) := dk_25 11 (dk_at dksJ4_removeNode_7 0 rfl rfl)
theorem dJ4_removeNode_162 : decode cJ4_removeNode 162 = .ok (.getfield 177, 3) := dk_180 0 177 (dk_at dksJ4_removeNode_7 2 rfl rfl)
theorem dJ4_removeNode_165 : decode cJ4_removeNode 165 = .ok (.dup, 1) := dk_89 (dk_at dksJ4_removeNode_7 5 rfl rfl)
theorem dJ4_removeNode_166 : decode cJ4_removeNode 166 = .ok (.astore 11, 2) := dk_58 11 (dk_at dksJ4_removeNode_7 6 rfl rfl)
theorem dJ4_removeNode_168 : decode cJ4_removeNode 168 = .ok (.ifnonnull (-53), 3) := dk_199 255 203 (dk_at dksJ4_removeNode_7 8 rfl rfl)
theorem dJ4_removeNode_171 : decode cJ4_removeNode 171 = .ok (.aload 10, 2) := dk_25 10 (dk_at dksJ4_removeNode_7 11 rfl rfl)
theorem dJ4_removeNode_173 : decode cJ4_removeNode 173 = .ok (.ifnull 116, 3) := dk_198 0 116 (dk_at dksJ4_removeNode_7 13 rfl rfl)
theorem dJ4_removeNode_176 : decode cJ4_removeNode 176 = .ok (.iload 4, 2) := dk_21 4 (dk_at dksJ4_removeNode_7 16 rfl rfl)
theorem dJ4_removeNode_178 : decode cJ4_removeNode 178 = .ok (.ifCond .eq 28, 3) := dk_153 0 28 (dk_at dksJ4_removeNode_7 18 rfl rfl)
theorem dJ4_removeNode_181 : decode cJ4_removeNode 181 = .ok (.aload 10, 2) := dk_25 10 (dk_at dksJ4_removeNode_7 21 rfl rfl)
theorem dJ4_removeNode_183 : decode cJ4_removeNode 183 = .ok (.getfield 162, 3) := dk_180 0 162 (dk_at dksJ4_removeNode_8 0 rfl rfl)
theorem dJ4_removeNode_186 : decode cJ4_removeNode 186 = .ok (.dup, 1) := dk_89 (dk_at dksJ4_removeNode_8 3 rfl rfl)
theorem dJ4_removeNode_187 : decode cJ4_removeNode 187 = .ok (.astore 13, 2) := dk_58 13 (dk_at dksJ4_removeNode_8 4 rfl rfl)
theorem dJ4_removeNode_189 : decode cJ4_removeNode 189 = .ok (.aload_n 3, 1) := dk_45 (dk_at dksJ4_removeNode_8 6 rfl rfl)
theorem dJ4_removeNode_190 : decode cJ4_removeNode 190 = .ok (.if_acmp .eq 16, 3) := dk_165 0 16 (dk_at dksJ4_removeNode_8 7 rfl rfl)
theorem dJ4_removeNode_193 : decode cJ4_removeNode 193 = .ok (.aload_n 3, 1) := dk_45 (dk_at dksJ4_removeNode_8 10 rfl rfl)
theorem dJ4_removeNode_194 : decode cJ4_removeNode 194 = .ok (.ifnull 95, 3) := dk_198 0 95 (dk_at dksJ4_removeNode_8 11 rfl rfl)
theorem dJ4_removeNode_197 : decode cJ4_removeNode 197 = .ok (.aload_n 3, 1) := dk_45 (dk_at dksJ4_removeNode_8 14 rfl rfl)
theorem dJ4_removeNode_198 : decode cJ4_removeNode 198 = .ok (.aload 13, 2) := dk_25 13 (dk_at dksJ4_removeNode_8 15 rfl rfl)
theorem dJ4_removeNode_200 : decode cJ4_removeNode 200 = .ok (.invokevirtual 173, 3) := dk_182 0 173 (dk_at dksJ4_removeNode_8 17 rfl rfl)
theorem dJ4_removeNode_203 : decode cJ4_removeNode 203 = .ok (.ifCond .eq 86, 3) := dk_153 0 86 (dk_at dksJ4_removeNode_8 20 rfl rfl)
theorem dJ4_removeNode_206 : decode cJ4_removeNode 206 = .ok (.aload 10, 2) := dk_25 10 (dk_at dksJ4_removeNode_9 0 rfl rfl)
theorem dJ4_removeNode_208 : decode cJ4_removeNode 208 = .ok (.instanceof 180, 3) := dk_193 0 180 (dk_at dksJ4_removeNode_9 2 rfl rfl)
theorem dJ4_removeNode_211 : decode cJ4_removeNode 211 = .ok (.ifCond .eq 19, 3) := dk_153 0 19 (dk_at dksJ4_removeNode_9 5 rfl rfl)
theorem dJ4_removeNode_214 : decode cJ4_removeNode 214 = .ok (.aload 10, 2) := dk_25 10 (dk_at dksJ4_removeNode_9 8 rfl rfl)
theorem dJ4_removeNode_216 : decode cJ4_removeNode 216 = .ok (.checkcast 180, 3) := dk_192 0 180 (dk_at dksJ4_removeNode_9 10 rfl rfl)
theorem dJ4_removeNode_219 : decode cJ4_removeNode 219 = .ok (.aload_n 0, 1) := dk_42 (dk_at dksJ4_removeNode_9 13 rfl rfl)
theorem dJ4_removeNode_220 : decode cJ4_removeNode 220 = .ok (.aload 6, 2) := dk_25 6 (dk_at dksJ4_removeNode_9 14 rfl rfl)
theorem dJ4_removeNode_222 : decode cJ4_removeNode 222 = .ok (.iload 5, 2) := dk_21 5 (dk_at dksJ4_removeNode_9 16 rfl rfl)
theorem dJ4_removeNode_224 : decode cJ4_removeNode 224 = .ok (.invokevirtual 232, 3) := dk_182 0 232 (dk_at dksJ4_removeNode_9 18 rfl rfl)
theorem dJ4_removeNode_227 : decode cJ4_removeNode 227 = .ok (.goto 33, 3) := dk_167 0 33 (dk_at dksJ4_removeNode_9 21 rfl rfl)
theorem dJ4_removeNode_230 : decode cJ4_removeNode 230 = .ok (.aload 10, 2) := dk_25 10 (dk_at dksJ4_removeNode_10 0 rfl rfl)
theorem dJ4_removeNode_232 : decode cJ4_removeNode 232 = .ok (.aload 7, 2) := dk_25 7 (dk_at dksJ4_removeNode_10 2 rfl rfl)
theorem dJ4_removeNode_234 : decode cJ4_removeNode 234 = .ok (.if_acmp .ne 16, 3) := dk_166 0 16 (dk_at dksJ4_removeNode_10 4 rfl rfl)
theorem dJ4_removeNode_237 : decode cJ4_removeNode 237 = .ok (.aload 6, 2) := dk_25 6 (dk_at dksJ4_removeNode_10 7 rfl rfl)
theorem dJ4_removeNode_239 : decode cJ4_removeNode 239 = .ok (.iload 9, 2) := dk_21 9 (dk_at dksJ4_removeNode_10 9 rfl rfl)
theorem dJ4_removeNode_241 : decode cJ4_removeNode 241 = .ok (.aload 10, 2) := dk_25 10 (dk_at dksJ4_removeNode_10 11 rfl rfl)
theorem dJ4_removeNode_243 : decode cJ4_removeNode 243 = .ok (.getfield 177, 3) := dk_180 0 177 (dk_at dksJ4_removeNode_10 13 rfl rfl)
theorem dJ4_removeNode_246 : decode cJ4_removeNode 246 = .ok (.aastore, 1) := dk_83 (dk_at dksJ4_removeNode_10 16 rfl rfl)
theorem dJ4_removeNode_247 : decode cJ4_removeNode 247 = .ok (.goto 13, 3) := dk_167 0 13 (dk_at dksJ4_removeNode_10 17 rfl rfl)
theorem dJ4_removeNode_250 : decode cJ4_removeNode 250 = .ok (.aload 7, 2) := dk_25 7 (dk_at dksJ4_removeNode_10 20 rfl rfl)
theorem dJ4_removeNode_252 : decode cJ4_removeNode 252 = .ok (.aload 10, 2) := dk_25 10 (dk_at dksJ4_removeNode_10 22 rfl rfl)
theorem dJ4_removeNode_254 : decode cJ4_removeNode 254 = .ok (.getfield 177, 3) := dk_180 0 177 (dk_at dksJ4_removeNode_11 0 rfl rfl)
theorem dJ4_removeNode_257 : decode cJ4_removeNode 257 = .ok (.putfield 177, 3) := dk_181 0 177 (dk_at dksJ4_removeNode_11 3 rfl rfl)
theorem dJ4_removeNode_260 : decode cJ4_removeNode 260 = .ok (.aload_n 0, 1) := dk_42 (dk_at dksJ4_removeNode_11 6 rfl rfl)
theorem dJ4_removeNode_261 : decode cJ4_removeNode 261 = .ok (.dup, 1) := dk_89 (dk_at dksJ4_removeNode_11 7 rfl rfl)
theorem dJ4_removeNode_262 : decode cJ4_removeNode 262 = .ok (.getfield 202, 3) := dk_180 0 202 (dk_at dksJ4_removeNode_11 8 rfl rfl)
theorem dJ4_removeNode_265 : decode cJ4_removeNode 265 = .ok (.iconst 1, 1) := dk_4 (dk_at dksJ4_removeNode_11 11 rfl rfl)
theorem dJ4_removeNode_266 : decode cJ4_removeNode 266 = .ok (.iadd, 1) := dk_96 (dk_at dksJ4_removeNode_11 12 rfl rfl)
theorem dJ4_removeNode_267 : decode cJ4_removeNode 267 = .ok (.putfield 202, 3) := dk_181 0 202 (dk_at dksJ4_removeNode_11 13 rfl rfl)
theorem dJ4_removeNode_270 : decode cJ4_removeNode 270 = .ok (.aload_n 0, 1) := dk_42 (dk_at dksJ4_removeNode_11 16 rfl rfl)
theorem dJ4_removeNode_271 : decode cJ4_removeNode 271 = .ok (.dup, 1) := dk_89 (dk_at dksJ4_removeNode_11 17 rfl rfl)
theorem dJ4_removeNode_272 : decode cJ4_removeNode 272 = .ok (.getfield 156, 3) := dk_180 0 156 (dk_at dksJ4_removeNode_11 18 rfl rfl)
theorem dJ4_removeNode_275 : decode cJ4_removeNode 275 = .ok (.iconst 1, 1) := dk_4 (dk_at dksJ4_removeNode_11 21 rfl rfl)
theorem dJ4_removeNode_276 : decode cJ4_removeNode 276 = .ok (.isub, 1) := dk_100 (dk_at dksJ4_removeNode_11 22 rfl rfl)
theorem dJ4_removeNode_277 : decode cJ4_removeNode 277 = .ok (.putfield 156, 3) := dk_181 0 156 (dk_at dksJ4_removeNode_12 0 rfl rfl)
theorem dJ4_removeNode_280 : decode cJ4_removeNode 280 = .ok (.aload_n 0, 1) := dk_42 (dk_at dksJ4_removeNode_12 3 rfl rfl)
theorem dJ4_removeNode_281 : decode cJ4_removeNode 281 = .ok (.aload 10, 2) := dk_25 10 (dk_at dksJ4_removeNode_12 4 rfl rfl)
theorem dJ4_removeNode_283 : decode cJ4_removeNode 283 = .ok (.invokevirtual 236, 3) := dk_182 0 236 (dk_at dksJ4_removeNode_12 6 rfl rfl)
theorem dJ4_removeNode_286 : decode cJ4_removeNode 286 = .ok (.aload 10, 2) := dk_25 10 (dk_at dksJ4_removeNode_12 9 rfl rfl)
theorem dJ4_removeNode_288 : decode cJ4_removeNode 288 = .ok (.areturn, 1) := dk_176 (dk_at dksJ4_removeNode_12 11 rfl rfl)
theorem dJ4_removeNode_289 : decode cJ4_removeNode 289 = .ok (.aconst_null, 1) := dk_1 (dk_at dksJ4_removeNode_12 12 rfl rfl)
theorem dJ4_removeNode_290 : decode cJ4_removeNode 290 = .ok (.areturn, 1) := dk_176 (dk_at dksJ4_removeNode_12 13 rfl rfl)
abbrev cJ4_afterNodeRemoval : ByteArray := prog_43_method_53_code
def yJ4_afterNodeRemoval : MethodName := ⟨RJ4, "afterNodeRemoval", "(Ljava/util/HashMap$Node;)V"⟩
theorem dJ4_afterNodeRemoval_0 : decode cJ4_afterNodeRemoval 0 = .ok (.return_, 1) := by decide +kernel
theorem q78 : (Jvm.Cond.initialized "java/util/HashMap") ∈ lw_all := lw_g (lw_at lw_m1 7 rfl) rfl
theorem q153 : (Jvm.Cond.instantiable "java/util/HashMap" (8 : Nat)) ∈ lw_all := lw_g (lw_at lw_m1 82 rfl) rfl
theorem q155 : (Jvm.Cond.instanceMethod ({ cls := "java/util/HashMap", name := "<init>", desc := "()V" } : Jvm.MethodName)) ∈ lw_all := lw_g (lw_at lw_m1 84 rfl) rfl
theorem q156 : (Jvm.Cond.code ({ cls := "java/util/HashMap", name := "<init>", desc := "()V" } : Jvm.MethodName) prog_43_method_7_code (1 : Nat) (Option.none : Option Jvm.ClassFile.FieldType)) ∈ lw_all := lw_g (lw_at lw_m1 85 rfl) rfl
theorem q157 : (Jvm.Cond.methodLink "java/util/HashMap" (43 : Nat) ({ cls := "java/util/AbstractMap", name := "<init>", desc := "()V" } : Jvm.MethodName)) ∈ lw_all := lw_g (lw_at lw_m1 86 rfl) rfl
theorem q161 : (Jvm.Cond.constantFloat "java/util/HashMap" (92 : Nat) (1061158912 : UInt32)) ∈ lw_all := lw_g (lw_at lw_m1 90 rfl) rfl
theorem q162 : (Jvm.Cond.fieldLink "java/util/HashMap" (105 : Nat) "java/util/HashMap" "table" "[Ljava/util/HashMap$Node;") ∈ lw_all := lw_g (lw_at lw_m1 91 rfl) rfl
theorem q163 : (Jvm.Cond.fieldLink "java/util/HashMap" (156 : Nat) "java/util/HashMap" "size" "I") ∈ lw_all := lw_g (lw_at lw_m1 92 rfl) rfl
theorem q164 : (Jvm.Cond.fieldLink "java/util/HashMap" (202 : Nat) "java/util/HashMap" "modCount" "I") ∈ lw_all := lw_g (lw_at lw_m1 93 rfl) rfl
theorem q165 : (Jvm.Cond.fieldLink "java/util/HashMap" (88 : Nat) "java/util/HashMap" "threshold" "I") ∈ lw_all := lw_g (lw_at lw_m1 94 rfl) rfl
theorem q166 : (Jvm.Cond.fieldLink "java/util/HashMap" (81 : Nat) "java/util/HashMap" "loadFactor" "F") ∈ lw_all := lw_g (lw_at lw_m1 95 rfl) rfl
theorem q167 : (Jvm.Cond.lays "java/util/HashMap" "java/util/HashMap" "table" "[Ljava/util/HashMap$Node;") ∈ lw_all := lw_g (lw_at lw_m1 96 rfl) rfl
theorem q168 : (Jvm.Cond.soleField "java/util/HashMap" "table") ∈ lw_all := lw_g (lw_at lw_m1 97 rfl) rfl
theorem q169 : (Jvm.Cond.lays "java/util/HashMap" "java/util/HashMap" "entrySet" "Ljava/util/Set;") ∈ lw_all := lw_g (lw_at lw_m1 98 rfl) rfl
theorem q170 : (Jvm.Cond.soleField "java/util/HashMap" "entrySet") ∈ lw_all := lw_g (lw_at lw_m1 99 rfl) rfl
theorem q171 : (Jvm.Cond.lays "java/util/HashMap" "java/util/HashMap" "size" "I") ∈ lw_all := lw_g (lw_at lw_m1 100 rfl) rfl
theorem q172 : (Jvm.Cond.soleField "java/util/HashMap" "size") ∈ lw_all := lw_g (lw_at lw_m1 101 rfl) rfl
theorem q173 : (Jvm.Cond.lays "java/util/HashMap" "java/util/HashMap" "modCount" "I") ∈ lw_all := lw_g (lw_at lw_m1 102 rfl) rfl
theorem q174 : (Jvm.Cond.soleField "java/util/HashMap" "modCount") ∈ lw_all := lw_g (lw_at lw_m1 103 rfl) rfl
theorem q175 : (Jvm.Cond.lays "java/util/HashMap" "java/util/HashMap" "threshold" "I") ∈ lw_all := lw_g (lw_at lw_m1 104 rfl) rfl
theorem q176 : (Jvm.Cond.soleField "java/util/HashMap" "threshold") ∈ lw_all := lw_g (lw_at lw_m1 105 rfl) rfl
theorem q177 : (Jvm.Cond.laysFinal "java/util/HashMap" "java/util/HashMap" "loadFactor" "F") ∈ lw_all := lw_g (lw_at lw_m1 106 rfl) rfl
theorem q178 : (Jvm.Cond.soleField "java/util/HashMap" "loadFactor") ∈ lw_all := lw_g (lw_at lw_m1 107 rfl) rfl
theorem q179 : (Jvm.Cond.lays "java/util/HashMap" "java/util/AbstractMap" "keySet" "Ljava/util/Set;") ∈ lw_all := lw_g (lw_at lw_m1 108 rfl) rfl
theorem q181 : (Jvm.Cond.lays "java/util/HashMap" "java/util/AbstractMap" "values" "Ljava/util/Collection;") ∈ lw_all := lw_g (lw_at lw_m1 110 rfl) rfl
theorem q183 : (Jvm.Cond.superclass "java/util/HashMap" "java/util/AbstractMap") ∈ lw_all := lw_g (lw_at lw_m1 112 rfl) rfl
theorem q743 : (Jvm.Cond.instanceMethod ({ cls := "java/util/HashMap", name := "get", desc := "(Ljava/lang/Object;)Ljava/lang/Object;" } : Jvm.MethodName)) ∈ lw_all := lw_g (lw_at lw_m3 192 rfl) rfl
theorem q744 : (Jvm.Cond.selects "java/util/HashMap" ({ cls := "java/util/HashMap", name := "get", desc := "(Ljava/lang/Object;)Ljava/lang/Object;" } : Jvm.MethodName) ({ cls := "java/util/HashMap", name := "get", desc := "(Ljava/lang/Object;)Ljava/lang/Object;" } : Jvm.MethodName)) ∈ lw_all := lw_g (lw_at lw_m3 193 rfl) rfl
theorem q745 : (Jvm.Cond.code ({ cls := "java/util/HashMap", name := "get", desc := "(Ljava/lang/Object;)Ljava/lang/Object;" } : Jvm.MethodName) prog_43_method_12_code (3 : Nat) (Option.some (Jvm.ClassFile.FieldType.object "java/lang/Object"))) ∈ lw_all := lw_g (lw_at lw_m3 194 rfl) rfl
theorem q746 : (Jvm.Cond.methodLink "java/util/HashMap" (158 : Nat) ({ cls := "java/util/HashMap", name := "getNode", desc := "(Ljava/lang/Object;)Ljava/util/HashMap$Node;" } : Jvm.MethodName)) ∈ lw_all := lw_g (lw_at lw_m3 195 rfl) rfl
theorem q747 : (Jvm.Cond.instanceMethod ({ cls := "java/util/HashMap", name := "getNode", desc := "(Ljava/lang/Object;)Ljava/util/HashMap$Node;" } : Jvm.MethodName)) ∈ lw_all := lw_g (lw_at lw_m3 196 rfl) rfl
theorem q748 : (Jvm.Cond.selects "java/util/HashMap" ({ cls := "java/util/HashMap", name := "getNode", desc := "(Ljava/lang/Object;)Ljava/util/HashMap$Node;" } : Jvm.MethodName) ({ cls := "java/util/HashMap", name := "getNode", desc := "(Ljava/lang/Object;)Ljava/util/HashMap$Node;" } : Jvm.MethodName)) ∈ lw_all := lw_g (lw_at lw_m3 197 rfl) rfl
theorem q749 : (Jvm.Cond.code ({ cls := "java/util/HashMap", name := "getNode", desc := "(Ljava/lang/Object;)Ljava/util/HashMap$Node;" } : Jvm.MethodName) prog_43_method_13_code (8 : Nat) (Option.some (Jvm.ClassFile.FieldType.object "java/util/HashMap$Node"))) ∈ lw_all := lw_g (lw_at lw_m3 198 rfl) rfl
theorem q750 : (Jvm.Cond.methodLink "java/util/HashMap" (149 : Nat) ({ cls := "java/util/HashMap", name := "hash", desc := "(Ljava/lang/Object;)I" } : Jvm.MethodName)) ∈ lw_all := lw_g (lw_at lw_m3 199 rfl) rfl
theorem q751 : (Jvm.Cond.static ({ cls := "java/util/HashMap", name := "hash", desc := "(Ljava/lang/Object;)I" } : Jvm.MethodName)) ∈ lw_all := lw_g (lw_at lw_m3 200 rfl) rfl
theorem q752 : (Jvm.Cond.code ({ cls := "java/util/HashMap", name := "hash", desc := "(Ljava/lang/Object;)I" } : Jvm.MethodName) prog_43_method_1_code (2 : Nat) (Option.some Jvm.ClassFile.FieldType.int)) ∈ lw_all := lw_g (lw_at lw_m3 201 rfl) rfl
theorem q754 : (Jvm.Cond.methodLink "java/util/HashMap" (1 : Nat) ({ cls := "java/lang/Object", name := "hashCode", desc := "()I" } : Jvm.MethodName)) ∈ lw_all := lw_g (lw_at lw_m3 203 rfl) rfl
theorem q836 : (Jvm.Cond.methodLink "java/util/HashMap" (173 : Nat) ({ cls := "java/lang/Object", name := "equals", desc := "(Ljava/lang/Object;)Z" } : Jvm.MethodName)) ∈ lw_all := lw_g (lw_at lw_m4 45 rfl) rfl
theorem q865 : (Jvm.Cond.classLink "java/util/HashMap" (180 : Nat) "java/util/HashMap$TreeNode") ∈ lw_all := lw_g (lw_at lw_m4 74 rfl) rfl
theorem q866 : (Jvm.Cond.methodLink "java/util/HashMap" (182 : Nat) ({ cls := "java/util/HashMap$TreeNode", name := "getTreeNode", desc := "(ILjava/lang/Object;)Ljava/util/HashMap$TreeNode;" } : Jvm.MethodName)) ∈ lw_all := lw_g (lw_at lw_m4 75 rfl) rfl
theorem q880 : (Jvm.Cond.static ({ cls := "java/util/HashMap", name := "comparableClassFor", desc := "(Ljava/lang/Object;)Ljava/lang/Class;" } : Jvm.MethodName)) ∈ lw_all := lw_g (lw_at lw_m4 89 rfl) rfl
theorem q881 : (Jvm.Cond.code ({ cls := "java/util/HashMap", name := "comparableClassFor", desc := "(Ljava/lang/Object;)Ljava/lang/Class;" } : Jvm.MethodName) prog_43_method_2_code (9 : Nat) (Option.some (Jvm.ClassFile.FieldType.object "java/lang/Class"))) ∈ lw_all := lw_g (lw_at lw_m4 90 rfl) rfl
theorem q882 : (Jvm.Cond.classLink "java/util/HashMap" (7 : Nat) "java/lang/Comparable") ∈ lw_all := lw_g (lw_at lw_m4 91 rfl) rfl
theorem q883 : (Jvm.Cond.methodLink "java/util/HashMap" (9 : Nat) ({ cls := "java/lang/Object", name := "getClass", desc := "()Ljava/lang/Class;" } : Jvm.MethodName)) ∈ lw_all := lw_g (lw_at lw_m4 92 rfl) rfl
theorem q902 : (Jvm.Cond.selects "java/util/HashMap" ({ cls := "java/lang/Object", name := "getClass", desc := "()Ljava/lang/Class;" } : Jvm.MethodName) ({ cls := "java/lang/Object", name := "getClass", desc := "()Ljava/lang/Class;" } : Jvm.MethodName)) ∈ lw_all := lw_g (lw_at lw_m4 111 rfl) rfl
theorem q907 : (Jvm.Cond.classLink "java/util/HashMap" (13 : Nat) "java/lang/String") ∈ lw_all := lw_g (lw_at lw_m4 116 rfl) rfl
theorem q909 : (Jvm.Cond.static ({ cls := "java/util/HashMap", name := "compareComparables", desc := "(Ljava/lang/Class;Ljava/lang/Object;Ljava/lang/Object;)I" } : Jvm.MethodName)) ∈ lw_all := lw_g (lw_at lw_m4 118 rfl) rfl
theorem q910 : (Jvm.Cond.code ({ cls := "java/util/HashMap", name := "compareComparables", desc := "(Ljava/lang/Class;Ljava/lang/Object;Ljava/lang/Object;)I" } : Jvm.MethodName) prog_43_method_3_code (3 : Nat) (Option.some Jvm.ClassFile.FieldType.int)) ∈ lw_all := lw_g (lw_at lw_m4 119 rfl) rfl
theorem q911 : (Jvm.Cond.interfaceEntry "java/util/HashMap" (30 : Nat)) ∈ lw_tbl := lw_at lw_m4 120 rfl
theorem q912 : (Jvm.Cond.methodLink "java/util/HashMap" (30 : Nat) ({ cls := "java/lang/Comparable", name := "compareTo", desc := "(Ljava/lang/Object;)I" } : Jvm.MethodName)) ∈ lw_all := lw_g (lw_at lw_m4 121 rfl) rfl
theorem q1215 : (Jvm.Cond.instanceMethod ({ cls := "java/util/HashMap", name := "clear", desc := "()V" } : Jvm.MethodName)) ∈ lw_all := lw_g (lw_at lw_m5 184 rfl) rfl
theorem q1216 : (Jvm.Cond.selects "java/util/HashMap" ({ cls := "java/util/HashMap", name := "clear", desc := "()V" } : Jvm.MethodName) ({ cls := "java/util/HashMap", name := "clear", desc := "()V" } : Jvm.MethodName)) ∈ lw_all := lw_g (lw_at lw_m5 185 rfl) rfl
theorem q1217 : (Jvm.Cond.code ({ cls := "java/util/HashMap", name := "clear", desc := "()V" } : Jvm.MethodName) prog_43_method_22_code (3 : Nat) (Option.none : Option Jvm.ClassFile.FieldType)) ∈ lw_all := lw_g (lw_at lw_m5 186 rfl) rfl
theorem q1277 : (Jvm.Cond.instanceMethod ({ cls := "java/util/HashMap", name := "put", desc := "(Ljava/lang/Object;Ljava/lang/Object;)Ljava/lang/Object;" } : Jvm.MethodName)) ∈ lw_all := lw_g (lw_at lw_m6 6 rfl) rfl
theorem q1278 : (Jvm.Cond.selects "java/util/HashMap" ({ cls := "java/util/HashMap", name := "put", desc := "(Ljava/lang/Object;Ljava/lang/Object;)Ljava/lang/Object;" } : Jvm.MethodName) ({ cls := "java/util/HashMap", name := "put", desc := "(Ljava/lang/Object;Ljava/lang/Object;)Ljava/lang/Object;" } : Jvm.MethodName)) ∈ lw_all := lw_g (lw_at lw_m6 7 rfl) rfl
theorem q1279 : (Jvm.Cond.code ({ cls := "java/util/HashMap", name := "put", desc := "(Ljava/lang/Object;Ljava/lang/Object;)Ljava/lang/Object;" } : Jvm.MethodName) prog_43_method_15_code (3 : Nat) (Option.some (Jvm.ClassFile.FieldType.object "java/lang/Object"))) ∈ lw_all := lw_g (lw_at lw_m6 8 rfl) rfl
theorem q1280 : (Jvm.Cond.methodLink "java/util/HashMap" (152 : Nat) ({ cls := "java/util/HashMap", name := "putVal", desc := "(ILjava/lang/Object;Ljava/lang/Object;ZZ)Ljava/lang/Object;" } : Jvm.MethodName)) ∈ lw_all := lw_g (lw_at lw_m6 9 rfl) rfl
theorem q1281 : (Jvm.Cond.instanceMethod ({ cls := "java/util/HashMap", name := "putVal", desc := "(ILjava/lang/Object;Ljava/lang/Object;ZZ)Ljava/lang/Object;" } : Jvm.MethodName)) ∈ lw_all := lw_g (lw_at lw_m6 10 rfl) rfl
theorem q1282 : (Jvm.Cond.selects "java/util/HashMap" ({ cls := "java/util/HashMap", name := "putVal", desc := "(ILjava/lang/Object;Ljava/lang/Object;ZZ)Ljava/lang/Object;" } : Jvm.MethodName) ({ cls := "java/util/HashMap", name := "putVal", desc := "(ILjava/lang/Object;Ljava/lang/Object;ZZ)Ljava/lang/Object;" } : Jvm.MethodName)) ∈ lw_all := lw_g (lw_at lw_m6 11 rfl) rfl
theorem q1283 : (Jvm.Cond.code ({ cls := "java/util/HashMap", name := "putVal", desc := "(ILjava/lang/Object;Ljava/lang/Object;ZZ)Ljava/lang/Object;" } : Jvm.MethodName) prog_43_method_16_code (13 : Nat) (Option.some (Jvm.ClassFile.FieldType.object "java/lang/Object"))) ∈ lw_all := lw_g (lw_at lw_m6 12 rfl) rfl
theorem q1284 : (Jvm.Cond.methodLink "java/util/HashMap" (117 : Nat) ({ cls := "java/util/HashMap", name := "resize", desc := "()[Ljava/util/HashMap$Node;" } : Jvm.MethodName)) ∈ lw_all := lw_g (lw_at lw_m6 13 rfl) rfl
theorem q1285 : (Jvm.Cond.instanceMethod ({ cls := "java/util/HashMap", name := "resize", desc := "()[Ljava/util/HashMap$Node;" } : Jvm.MethodName)) ∈ lw_all := lw_g (lw_at lw_m6 14 rfl) rfl
theorem q1286 : (Jvm.Cond.selects "java/util/HashMap" ({ cls := "java/util/HashMap", name := "resize", desc := "()[Ljava/util/HashMap$Node;" } : Jvm.MethodName) ({ cls := "java/util/HashMap", name := "resize", desc := "()[Ljava/util/HashMap$Node;" } : Jvm.MethodName)) ∈ lw_all := lw_g (lw_at lw_m6 15 rfl) rfl
theorem q1287 : (Jvm.Cond.code ({ cls := "java/util/HashMap", name := "resize", desc := "()[Ljava/util/HashMap$Node;" } : Jvm.MethodName) prog_43_method_17_code (14 : Nat) (Option.some (Jvm.ClassFile.FieldType.array (Jvm.ClassFile.FieldType.object "java/util/HashMap$Node")))) ∈ lw_all := lw_g (lw_at lw_m6 16 rfl) rfl
theorem q1288 : (Jvm.Cond.constant "java/util/HashMap" (42 : Nat) (1073741824 : Int32)) ∈ lw_all := lw_g (lw_at lw_m6 17 rfl) rfl
theorem q1289 : (Jvm.Cond.constant "java/util/HashMap" (209 : Nat) (2147483647 : Int32)) ∈ lw_all := lw_g (lw_at lw_m6 18 rfl) rfl
theorem q1290 : (Jvm.Cond.constantFloat "java/util/HashMap" (210 : Nat) (1317011456 : UInt32)) ∈ lw_all := lw_g (lw_at lw_m6 19 rfl) rfl
theorem q1291 : (Jvm.Cond.classLink "java/util/HashMap" (163 : Nat) "java/util/HashMap$Node") ∈ lw_all := lw_g (lw_at lw_m6 20 rfl) rfl
theorem q1293 : (Jvm.Cond.methodLink "java/util/HashMap" (211 : Nat) ({ cls := "java/util/HashMap$TreeNode", name := "split", desc := "(Ljava/util/HashMap;[Ljava/util/HashMap$Node;II)V" } : Jvm.MethodName)) ∈ lw_all := lw_g (lw_at lw_m6 22 rfl) rfl
theorem q1303 : (Jvm.Cond.instanceMethod ({ cls := "java/util/HashMap", name := "replacementNode", desc := "(Ljava/util/HashMap$Node;Ljava/util/HashMap$Node;)Ljava/util/HashMap$Node;" } : Jvm.MethodName)) ∈ lw_all := lw_g (lw_at lw_m6 32 rfl) rfl
theorem q1304 : (Jvm.Cond.selects "java/util/HashMap" ({ cls := "java/util/HashMap", name := "replacementNode", desc := "(Ljava/util/HashMap$Node;Ljava/util/HashMap$Node;)Ljava/util/HashMap$Node;" } : Jvm.MethodName) ({ cls := "java/util/HashMap", name := "replacementNode", desc := "(Ljava/util/HashMap$Node;Ljava/util/HashMap$Node;)Ljava/util/HashMap$Node;" } : Jvm.MethodName)) ∈ lw_all := lw_g (lw_at lw_m6 33 rfl) rfl
theorem q1305 : (Jvm.Cond.code ({ cls := "java/util/HashMap", name := "replacementNode", desc := "(Ljava/util/HashMap$Node;Ljava/util/HashMap$Node;)Ljava/util/HashMap$Node;" } : Jvm.MethodName) prog_43_method_47_code (3 : Nat) (Option.some (Jvm.ClassFile.FieldType.object "java/util/HashMap$Node"))) ∈ lw_all := lw_g (lw_at lw_m6 34 rfl) rfl
theorem q1307 : (Jvm.Cond.methodLink "java/util/HashMap" (375 : Nat) ({ cls := "java/util/HashMap$Node", name := "<init>", desc := "(ILjava/lang/Object;Ljava/lang/Object;Ljava/util/HashMap$Node;)V" } : Jvm.MethodName)) ∈ lw_all := lw_g (lw_at lw_m6 36 rfl) rfl
theorem q1314 : (Jvm.Cond.fieldLink "java/util/HashMap" (168 : Nat) "java/util/HashMap$Node" "hash" "I") ∈ lw_all := lw_g (lw_at lw_m6 43 rfl) rfl
theorem q1318 : (Jvm.Cond.fieldLink "java/util/HashMap" (170 : Nat) "java/util/HashMap$Node" "key" "Ljava/lang/Object;") ∈ lw_all := lw_g (lw_at lw_m6 47 rfl) rfl
theorem q1320 : (Jvm.Cond.fieldLink "java/util/HashMap" (162 : Nat) "java/util/HashMap$Node" "value" "Ljava/lang/Object;") ∈ lw_all := lw_g (lw_at lw_m6 49 rfl) rfl
theorem q1325 : (Jvm.Cond.fieldLink "java/util/HashMap" (177 : Nat) "java/util/HashMap$Node" "next" "Ljava/util/HashMap$Node;") ∈ lw_all := lw_g (lw_at lw_m6 54 rfl) rfl
theorem q1326 : (Jvm.Cond.fieldLink "java/util/HashMap" (223 : Nat) "java/util/HashMap$TreeNode" "next" "Ljava/util/HashMap$Node;") ∈ lw_all := lw_g (lw_at lw_m6 55 rfl) rfl
theorem q1354 : (Jvm.Cond.methodLink "java/util/HashMap" (186 : Nat) ({ cls := "java/util/HashMap", name := "newNode", desc := "(ILjava/lang/Object;Ljava/lang/Object;Ljava/util/HashMap$Node;)Ljava/util/HashMap$Node;" } : Jvm.MethodName)) ∈ lw_all := lw_g (lw_at lw_m6 83 rfl) rfl
theorem q1355 : (Jvm.Cond.instanceMethod ({ cls := "java/util/HashMap", name := "newNode", desc := "(ILjava/lang/Object;Ljava/lang/Object;Ljava/util/HashMap$Node;)Ljava/util/HashMap$Node;" } : Jvm.MethodName)) ∈ lw_all := lw_g (lw_at lw_m6 84 rfl) rfl
theorem q1356 : (Jvm.Cond.selects "java/util/HashMap" ({ cls := "java/util/HashMap", name := "newNode", desc := "(ILjava/lang/Object;Ljava/lang/Object;Ljava/util/HashMap$Node;)Ljava/util/HashMap$Node;" } : Jvm.MethodName) ({ cls := "java/util/HashMap", name := "newNode", desc := "(ILjava/lang/Object;Ljava/lang/Object;Ljava/util/HashMap$Node;)Ljava/util/HashMap$Node;" } : Jvm.MethodName)) ∈ lw_all := lw_g (lw_at lw_m6 85 rfl) rfl
theorem q1357 : (Jvm.Cond.code ({ cls := "java/util/HashMap", name := "newNode", desc := "(ILjava/lang/Object;Ljava/lang/Object;Ljava/util/HashMap$Node;)Ljava/util/HashMap$Node;" } : Jvm.MethodName) prog_43_method_46_code (5 : Nat) (Option.some (Jvm.ClassFile.FieldType.object "java/util/HashMap$Node"))) ∈ lw_all := lw_g (lw_at lw_m6 86 rfl) rfl
theorem q1358 : (Jvm.Cond.methodLink "java/util/HashMap" (190 : Nat) ({ cls := "java/util/HashMap$TreeNode", name := "putTreeVal", desc := "(Ljava/util/HashMap;[Ljava/util/HashMap$Node;ILjava/lang/Object;Ljava/lang/Object;)Ljava/util/HashMap$TreeNode;" } : Jvm.MethodName)) ∈ lw_all := lw_g (lw_at lw_m6 87 rfl) rfl
theorem q1363 : (Jvm.Cond.instanceMethod ({ cls := "java/util/HashMap", name := "newTreeNode", desc := "(ILjava/lang/Object;Ljava/lang/Object;Ljava/util/HashMap$Node;)Ljava/util/HashMap$TreeNode;" } : Jvm.MethodName)) ∈ lw_all := lw_g (lw_at lw_m6 92 rfl) rfl
theorem q1364 : (Jvm.Cond.selects "java/util/HashMap" ({ cls := "java/util/HashMap", name := "newTreeNode", desc := "(ILjava/lang/Object;Ljava/lang/Object;Ljava/util/HashMap$Node;)Ljava/util/HashMap$TreeNode;" } : Jvm.MethodName) ({ cls := "java/util/HashMap", name := "newTreeNode", desc := "(ILjava/lang/Object;Ljava/lang/Object;Ljava/util/HashMap$Node;)Ljava/util/HashMap$TreeNode;" } : Jvm.MethodName)) ∈ lw_all := lw_g (lw_at lw_m6 93 rfl) rfl
theorem q1365 : (Jvm.Cond.code ({ cls := "java/util/HashMap", name := "newTreeNode", desc := "(ILjava/lang/Object;Ljava/lang/Object;Ljava/util/HashMap$Node;)Ljava/util/HashMap$TreeNode;" } : Jvm.MethodName) prog_43_method_48_code (5 : Nat) (Option.some (Jvm.ClassFile.FieldType.object "java/util/HashMap$TreeNode"))) ∈ lw_all := lw_g (lw_at lw_m6 94 rfl) rfl
theorem q1367 : (Jvm.Cond.methodLink "java/util/HashMap" (378 : Nat) ({ cls := "java/util/HashMap$TreeNode", name := "<init>", desc := "(ILjava/lang/Object;Ljava/lang/Object;Ljava/util/HashMap$Node;)V" } : Jvm.MethodName)) ∈ lw_all := lw_g (lw_at lw_m6 96 rfl) rfl
theorem q1378 : (Jvm.Cond.fieldLink "java/util/HashMap" (219 : Nat) "java/util/HashMap$TreeNode" "prev" "Ljava/util/HashMap$TreeNode;") ∈ lw_all := lw_g (lw_at lw_m6 107 rfl) rfl
theorem q1399 : (Jvm.Cond.methodLink "java/util/HashMap" (194 : Nat) ({ cls := "java/util/HashMap", name := "treeifyBin", desc := "([Ljava/util/HashMap$Node;I)V" } : Jvm.MethodName)) ∈ lw_all := lw_g (lw_at lw_m6 128 rfl) rfl
theorem q1400 : (Jvm.Cond.instanceMethod ({ cls := "java/util/HashMap", name := "treeifyBin", desc := "([Ljava/util/HashMap$Node;I)V" } : Jvm.MethodName)) ∈ lw_all := lw_g (lw_at lw_m6 129 rfl) rfl
theorem q1401 : (Jvm.Cond.selects "java/util/HashMap" ({ cls := "java/util/HashMap", name := "treeifyBin", desc := "([Ljava/util/HashMap$Node;I)V" } : Jvm.MethodName) ({ cls := "java/util/HashMap", name := "treeifyBin", desc := "([Ljava/util/HashMap$Node;I)V" } : Jvm.MethodName)) ∈ lw_all := lw_g (lw_at lw_m6 130 rfl) rfl
theorem q1402 : (Jvm.Cond.code ({ cls := "java/util/HashMap", name := "treeifyBin", desc := "([Ljava/util/HashMap$Node;I)V" } : Jvm.MethodName) prog_43_method_18_code (9 : Nat) (Option.none : Option Jvm.ClassFile.FieldType)) ∈ lw_all := lw_g (lw_at lw_m6 131 rfl) rfl
theorem q1403 : (Jvm.Cond.methodLink "java/util/HashMap" (215 : Nat) ({ cls := "java/util/HashMap", name := "replacementTreeNode", desc := "(Ljava/util/HashMap$Node;Ljava/util/HashMap$Node;)Ljava/util/HashMap$TreeNode;" } : Jvm.MethodName)) ∈ lw_all := lw_g (lw_at lw_m6 132 rfl) rfl
theorem q1404 : (Jvm.Cond.instanceMethod ({ cls := "java/util/HashMap", name := "replacementTreeNode", desc := "(Ljava/util/HashMap$Node;Ljava/util/HashMap$Node;)Ljava/util/HashMap$TreeNode;" } : Jvm.MethodName)) ∈ lw_all := lw_g (lw_at lw_m6 133 rfl) rfl
theorem q1405 : (Jvm.Cond.selects "java/util/HashMap" ({ cls := "java/util/HashMap", name := "replacementTreeNode", desc := "(Ljava/util/HashMap$Node;Ljava/util/HashMap$Node;)Ljava/util/HashMap$TreeNode;" } : Jvm.MethodName) ({ cls := "java/util/HashMap", name := "replacementTreeNode", desc := "(Ljava/util/HashMap$Node;Ljava/util/HashMap$Node;)Ljava/util/HashMap$TreeNode;" } : Jvm.MethodName)) ∈ lw_all := lw_g (lw_at lw_m6 134 rfl) rfl
theorem q1406 : (Jvm.Cond.code ({ cls := "java/util/HashMap", name := "replacementTreeNode", desc := "(Ljava/util/HashMap$Node;Ljava/util/HashMap$Node;)Ljava/util/HashMap$TreeNode;" } : Jvm.MethodName) prog_43_method_49_code (3 : Nat) (Option.some (Jvm.ClassFile.FieldType.object "java/util/HashMap$TreeNode"))) ∈ lw_all := lw_g (lw_at lw_m6 135 rfl) rfl
theorem q1407 : (Jvm.Cond.methodLink "java/util/HashMap" (224 : Nat) ({ cls := "java/util/HashMap$TreeNode", name := "treeify", desc := "([Ljava/util/HashMap$Node;)V" } : Jvm.MethodName)) ∈ lw_all := lw_g (lw_at lw_m6 136 rfl) rfl
theorem q1408 : (Jvm.Cond.methodLink "java/util/HashMap" (198 : Nat) ({ cls := "java/util/HashMap", name := "afterNodeAccess", desc := "(Ljava/util/HashMap$Node;)V" } : Jvm.MethodName)) ∈ lw_all := lw_g (lw_at lw_m6 137 rfl) rfl
theorem q1409 : (Jvm.Cond.instanceMethod ({ cls := "java/util/HashMap", name := "afterNodeAccess", desc := "(Ljava/util/HashMap$Node;)V" } : Jvm.MethodName)) ∈ lw_all := lw_g (lw_at lw_m6 138 rfl) rfl
theorem q1410 : (Jvm.Cond.selects "java/util/HashMap" ({ cls := "java/util/HashMap", name := "afterNodeAccess", desc := "(Ljava/util/HashMap$Node;)V" } : Jvm.MethodName) ({ cls := "java/util/HashMap", name := "afterNodeAccess", desc := "(Ljava/util/HashMap$Node;)V" } : Jvm.MethodName)) ∈ lw_all := lw_g (lw_at lw_m6 139 rfl) rfl
theorem q1411 : (Jvm.Cond.code ({ cls := "java/util/HashMap", name := "afterNodeAccess", desc := "(Ljava/util/HashMap$Node;)V" } : Jvm.MethodName) prog_43_method_51_code (2 : Nat) (Option.none : Option Jvm.ClassFile.FieldType)) ∈ lw_all := lw_g (lw_at lw_m6 140 rfl) rfl
theorem q1412 : (Jvm.Cond.methodLink "java/util/HashMap" (205 : Nat) ({ cls := "java/util/HashMap", name := "afterNodeInsertion", desc := "(Z)V" } : Jvm.MethodName)) ∈ lw_all := lw_g (lw_at lw_m6 141 rfl) rfl
theorem q1413 : (Jvm.Cond.instanceMethod ({ cls := "java/util/HashMap", name := "afterNodeInsertion", desc := "(Z)V" } : Jvm.MethodName)) ∈ lw_all := lw_g (lw_at lw_m6 142 rfl) rfl
theorem q1414 : (Jvm.Cond.selects "java/util/HashMap" ({ cls := "java/util/HashMap", name := "afterNodeInsertion", desc := "(Z)V" } : Jvm.MethodName) ({ cls := "java/util/HashMap", name := "afterNodeInsertion", desc := "(Z)V" } : Jvm.MethodName)) ∈ lw_all := lw_g (lw_at lw_m6 143 rfl) rfl
theorem q1415 : (Jvm.Cond.code ({ cls := "java/util/HashMap", name := "afterNodeInsertion", desc := "(Z)V" } : Jvm.MethodName) prog_43_method_52_code (2 : Nat) (Option.none : Option Jvm.ClassFile.FieldType)) ∈ lw_all := lw_g (lw_at lw_m6 144 rfl) rfl
theorem q1454 : (Jvm.Cond.instanceMethod ({ cls := "java/util/HashMap", name := "remove", desc := "(Ljava/lang/Object;)Ljava/lang/Object;" } : Jvm.MethodName)) ∈ lw_all := lw_g (lw_at lw_m6 183 rfl) rfl
theorem q1455 : (Jvm.Cond.selects "java/util/HashMap" ({ cls := "java/util/HashMap", name := "remove", desc := "(Ljava/lang/Object;)Ljava/lang/Object;" } : Jvm.MethodName) ({ cls := "java/util/HashMap", name := "remove", desc := "(Ljava/lang/Object;)Ljava/lang/Object;" } : Jvm.MethodName)) ∈ lw_all := lw_g (lw_at lw_m6 184 rfl) rfl
theorem q1456 : (Jvm.Cond.code ({ cls := "java/util/HashMap", name := "remove", desc := "(Ljava/lang/Object;)Ljava/lang/Object;" } : Jvm.MethodName) prog_43_method_20_code (3 : Nat) (Option.some (Jvm.ClassFile.FieldType.object "java/lang/Object"))) ∈ lw_all := lw_g (lw_at lw_m6 185 rfl) rfl
theorem q1457 : (Jvm.Cond.methodLink "java/util/HashMap" (228 : Nat) ({ cls := "java/util/HashMap", name := "removeNode", desc := "(ILjava/lang/Object;Ljava/lang/Object;ZZ)Ljava/util/HashMap$Node;" } : Jvm.MethodName)) ∈ lw_all := lw_g (lw_at lw_m6 186 rfl) rfl
theorem q1458 : (Jvm.Cond.instanceMethod ({ cls := "java/util/HashMap", name := "removeNode", desc := "(ILjava/lang/Object;Ljava/lang/Object;ZZ)Ljava/util/HashMap$Node;" } : Jvm.MethodName)) ∈ lw_all := lw_g (lw_at lw_m6 187 rfl) rfl
theorem q1459 : (Jvm.Cond.selects "java/util/HashMap" ({ cls := "java/util/HashMap", name := "removeNode", desc := "(ILjava/lang/Object;Ljava/lang/Object;ZZ)Ljava/util/HashMap$Node;" } : Jvm.MethodName) ({ cls := "java/util/HashMap", name := "removeNode", desc := "(ILjava/lang/Object;Ljava/lang/Object;ZZ)Ljava/util/HashMap$Node;" } : Jvm.MethodName)) ∈ lw_all := lw_g (lw_at lw_m6 188 rfl) rfl
theorem q1460 : (Jvm.Cond.code ({ cls := "java/util/HashMap", name := "removeNode", desc := "(ILjava/lang/Object;Ljava/lang/Object;ZZ)Ljava/util/HashMap$Node;" } : Jvm.MethodName) prog_43_method_21_code (14 : Nat) (Option.some (Jvm.ClassFile.FieldType.object "java/util/HashMap$Node"))) ∈ lw_all := lw_g (lw_at lw_m6 189 rfl) rfl
theorem q1461 : (Jvm.Cond.methodLink "java/util/HashMap" (232 : Nat) ({ cls := "java/util/HashMap$TreeNode", name := "removeTreeNode", desc := "(Ljava/util/HashMap;[Ljava/util/HashMap$Node;Z)V" } : Jvm.MethodName)) ∈ lw_all := lw_g (lw_at lw_m6 190 rfl) rfl
theorem q1468 : (Jvm.Cond.methodLink "java/util/HashMap" (236 : Nat) ({ cls := "java/util/HashMap", name := "afterNodeRemoval", desc := "(Ljava/util/HashMap$Node;)V" } : Jvm.MethodName)) ∈ lw_all := lw_g (lw_at lw_m6 197 rfl) rfl
theorem q1469 : (Jvm.Cond.instanceMethod ({ cls := "java/util/HashMap", name := "afterNodeRemoval", desc := "(Ljava/util/HashMap$Node;)V" } : Jvm.MethodName)) ∈ lw_all := lw_g (lw_at lw_m6 198 rfl) rfl
theorem q1470 : (Jvm.Cond.selects "java/util/HashMap" ({ cls := "java/util/HashMap", name := "afterNodeRemoval", desc := "(Ljava/util/HashMap$Node;)V" } : Jvm.MethodName) ({ cls := "java/util/HashMap", name := "afterNodeRemoval", desc := "(Ljava/util/HashMap$Node;)V" } : Jvm.MethodName)) ∈ lw_all := lw_g (lw_at lw_m6 199 rfl) rfl
theorem q1471 : (Jvm.Cond.code ({ cls := "java/util/HashMap", name := "afterNodeRemoval", desc := "(Ljava/util/HashMap$Node;)V" } : Jvm.MethodName) prog_43_method_53_code (2 : Nat) (Option.none : Option Jvm.ClassFile.FieldType)) ∈ lw_all := lw_g (lw_at lw_m6 200 rfl) rfl
theorem q2084 : (Jvm.Cond.castable "java/util/HashMap" "java/lang/Object") ∈ lw_tbl := lw_at lw_m9 93 rfl
theorem in_J4 : ∀ w ∈ wsJ40, w ∈ lw_all := lw_in wsJ40 [179, 181, 167, 169, 171, 173, 175, 177] (by decide +kernel) (by decide +kernel)

/-! java/lang/AbstractStringBuilder -/
set_option maxRecDepth 100000
def RJ5 : String := "java/lang/AbstractStringBuilder"
abbrev cJ5_init : ByteArray := prog_10_method_2_code
def yJ5_init : MethodName := ⟨RJ5, "<init>", "(I)V"⟩
def dkwJ5_init_1 : List UInt8 := [167, 0, 16, 42, 27, 184, 0, 26, 181, 0, 15, 42, 4, 181, 0, 22, 177]
abbrev dktJ5_init_1 : List UInt8 := dkwJ5_init_1 ++ []
def dkwJ5_init_0 : List UInt8 := [42, 183, 0, 3, 178, 0, 18, 153, 0, 18, 42, 27, 188, 8, 181, 0, 15, 42, 3, 181, 0, 22]
abbrev dktJ5_init_0 : List UInt8 := dkwJ5_init_0 ++ dktJ5_init_1
theorem dksJ5_init_0 : cJ5_init.data.toList.drop 0 = dktJ5_init_0 := by decide +kernel
theorem dksJ5_init_1 : cJ5_init.data.toList.drop 22 = dktJ5_init_1 := dk_seg dksJ5_init_0 22 rfl rfl
theorem dJ5_init_0 : decode cJ5_init 0 = .ok (.aload_n 0, 1) := dk_42 (dk_at dksJ5_init_0 0 rfl rfl)
theorem dJ5_init_1 : decode cJ5_init 1 = .ok (.invokespecial 3, 3) := dk_183 0 3 (dk_at dksJ5_init_0 1 rfl rfl)
theorem dJ5_init_4 : decode cJ5_init 4 = .ok (.getstatic 18, 3) := dk_178 0 18 (dk_at dksJ5_init_0 4 rfl rfl)
theorem dJ5_init_7 : decode cJ5_init 7 = .ok (.ifCond .eq 18, 3) := dk_153 0 18 (dk_at dksJ5_init_0 7 rfl rfl)
theorem dJ5_init_10 : decode cJ5_init 10 = .ok (.aload_n 0, 1) := dk_42 (dk_at dksJ5_init_0 10 rfl rfl)
theorem dJ5_init_11 : decode cJ5_init 11 = .ok (.iload_n 1, 1) := dk_27 (dk_at dksJ5_init_0 11 rfl rfl)
theorem dJ5_init_12 : decode cJ5_init 12 = .ok (.newarray .byte, 2) := dk_188_8 (dk_at dksJ5_init_0 12 rfl rfl)
theorem dJ5_init_14 : decode cJ5_init 14 = .ok (.putfield 15, 3) := dk_181 0 15 (dk_at dksJ5_init_0 14 rfl rfl)
theorem dJ5_init_17 : decode cJ5_init 17 = .ok (.aload_n 0, 1) := dk_42 (dk_at dksJ5_init_0 17 rfl rfl)
theorem dJ5_init_18 : decode cJ5_init 18 = .ok (.iconst 0, 1) := dk_3 (dk_at dksJ5_init_0 18 rfl rfl)
theorem dJ5_init_19 : decode cJ5_init 19 = .ok (.putfield 22, 3) := dk_181 0 22 (dk_at dksJ5_init_0 19 rfl rfl)
theorem dJ5_init_22 : decode cJ5_init 22 = .ok (.goto 16, 3) := dk_167 0 16 (dk_at dksJ5_init_1 0 rfl rfl)
theorem dJ5_init_25 : decode cJ5_init 25 = .ok (.aload_n 0, 1) := dk_42 (dk_at dksJ5_init_1 3 rfl rfl)
theorem dJ5_init_26 : decode cJ5_init 26 = .ok (.iload_n 1, 1) := dk_27 (dk_at dksJ5_init_1 4 rfl rfl)
theorem dJ5_init_27 : decode cJ5_init 27 = .ok (.invokestatic 26, 3) := dk_184 0 26 (dk_at dksJ5_init_1 5 rfl rfl)
theorem dJ5_init_30 : decode cJ5_init 30 = .ok (.putfield 15, 3) := dk_181 0 15 (dk_at dksJ5_init_1 8 rfl rfl)
theorem dJ5_init_33 : decode cJ5_init 33 = .ok (.aload_n 0, 1) := dk_42 (dk_at dksJ5_init_1 11 rfl rfl)
theorem dJ5_init_34 : decode cJ5_init 34 = .ok (.iconst 1, 1) := dk_4 (dk_at dksJ5_init_1 12 rfl rfl)
theorem dJ5_init_35 : decode cJ5_init 35 = .ok (.putfield 22, 3) := dk_181 0 22 (dk_at dksJ5_init_1 13 rfl rfl)
theorem dJ5_init_38 : decode cJ5_init 38 = .ok (.return_, 1) := dk_177 (dk_at dksJ5_init_1 16 rfl rfl)
abbrev cJ5_length : ByteArray := prog_10_method_6_code
def yJ5_length : MethodName := ⟨RJ5, "length", "()I"⟩
theorem dJ5_length_0 : decode cJ5_length 0 = .ok (.aload_n 0, 1) := by decide +kernel
theorem dJ5_length_1 : decode cJ5_length 1 = .ok (.getfield 79, 3) := by decide +kernel
theorem dJ5_length_4 : decode cJ5_length 4 = .ok (.ireturn, 1) := by decide +kernel
abbrev cJ5_setLength : ByteArray := prog_10_method_13_code
def yJ5_setLength : MethodName := ⟨RJ5, "setLength", "(I)V"⟩
def dkwJ5_setLength_3 : List UInt8 := [164, 0, 8, 42, 4, 181, 0, 73, 42, 27, 181, 0, 79, 177]
abbrev dktJ5_setLength_3 : List UInt8 := dkwJ5_setLength_3 ++ []
def dkwJ5_setLength_2 : List UInt8 := [167, 0, 31, 42, 180, 0, 15, 42, 180, 0, 79, 27, 184, 0, 137, 167, 0, 16, 42, 180, 0, 79, 27]
abbrev dktJ5_setLength_2 : List UInt8 := dkwJ5_setLength_2 ++ dktJ5_setLength_3
def dkwJ5_setLength_1 : List UInt8 := [162, 0, 40, 42, 182, 0, 83, 153, 0, 18, 42, 180, 0, 15, 42, 180, 0, 79, 27, 184, 0, 133]
abbrev dktJ5_setLength_1 : List UInt8 := dkwJ5_setLength_1 ++ dktJ5_setLength_2
def dkwJ5_setLength_0 : List UInt8 := [27, 156, 0, 12, 187, 0, 129, 89, 27, 183, 0, 131, 191, 42, 27, 182, 0, 100, 42, 180, 0, 79, 27]
abbrev dktJ5_setLength_0 : List UInt8 := dkwJ5_setLength_0 ++ dktJ5_setLength_1
theorem dksJ5_setLength_0 : cJ5_setLength.data.toList.drop 0 = dktJ5_setLength_0 := by decide +kernel
theorem dksJ5_setLength_1 : cJ5_setLength.data.toList.drop 23 = dktJ5_setLength_1 := dk_seg dksJ5_setLength_0 23 rfl rfl
theorem dksJ5_setLength_2 : cJ5_setLength.data.toList.drop 45 = dktJ5_setLength_2 := dk_seg dksJ5_setLength_1 22 rfl rfl
theorem dksJ5_setLength_3 : cJ5_setLength.data.toList.drop 68 = dktJ5_setLength_3 := dk_seg dksJ5_setLength_2 23 rfl rfl
theorem dJ5_setLength_0 : decode cJ5_setLength 0 = .ok (.iload_n 1, 1) := dk_27 (dk_at dksJ5_setLength_0 0 rfl rfl)
theorem dJ5_setLength_1 : decode cJ5_setLength 1 = .ok (.ifCond .ge 12, 3) := dk_156 0 12 (dk_at dksJ5_setLength_0 1 rfl rfl)
theorem dJ5_setLength_4 : decode cJ5_setLength 4 = .ok (.new 129, 3) := dk_187 0 129 (dk_at dksJ5_setLength_0 4 rfl rfl)
theorem dJ5_setLength_7 : decode cJ5_setLength 7 = .ok (.dup, 1) := dk_89 (dk_at dksJ5_setLength_0 7 rfl rfl)
theorem dJ5_setLength_8 : decode cJ5_setLength 8 = .ok (.iload_n 1, 1) := dk_27 (dk_at dksJ5_setLength_0 8 rfl rfl)
theorem dJ5_setLength_9 : decode cJ5_setLength 9 = .ok (.invokespecial 131, 3) := dk_183 0 131 (dk_at dksJ5_setLength_0 9 rfl rfl)
theorem dJ5_setLength_12 : decode cJ5_setLength 12 = .ok (.athrow, 1) := dk_191 (dk_at dksJ5_setLength_0 12 rfl rfl)
theorem dJ5_setLength_13 : decode cJ5_setLength 13 = .ok (.aload_n 0, 1) := dk_42 (dk_at dksJ5_setLength_0 13 rfl rfl)
theorem dJ5_setLength_14 : decode cJ5_setLength 14 = .ok (.iload_n 1, 1) := dk_27 (dk_at dksJ5_setLength_0 14 rfl rfl)
theorem dJ5_setLength_15 : decode cJ5_setLength 15 = .ok (.invokevirtual 100, 3) := dk_182 0 100 (dk_at dksJ5_setLength_0 15 rfl rfl)
theorem dJ5_setLength_18 : decode cJ5_setLength 18 = .ok (.aload_n 0, 1) := dk_42 (dk_at dksJ5_setLength_0 18 rfl rfl)
theorem dJ5_setLength_19 : decode cJ5_setLength 19 = .ok (.getfield 79, 3) := dk_180 0 79 (dk_at dksJ5_setLength_0 19 rfl rfl)
theorem dJ5_setLength_22 : decode cJ5_setLength 22 = .ok (.iload_n 1, 1) := dk_27 (dk_at dksJ5_setLength_0 22 rfl rfl)
theorem dJ5_setLength_23 : decode cJ5_setLength 23 = .ok (.if_icmp .ge 40, 3) := dk_162 0 40 (dk_at dksJ5_setLength_1 0 rfl rfl)
theorem dJ5_setLength_26 : decode cJ5_setLength 26 = .ok (.aload_n 0, 1) := dk_42 (dk_at dksJ5_setLength_1 3 rfl rfl)
theorem dJ5_setLength_27 : decode cJ5_setLength 27 = .ok (.invokevirtual 83, 3) := dk_182 0 83 (dk_at dksJ5_setLength_1 4 rfl rfl)
theorem dJ5_setLength_30 : decode cJ5_setLength 30 = .ok (.ifCond .eq 18, 3) := dk_153 0 18 (dk_at dksJ5_setLength_1 7 rfl rfl)
theorem dJ5_setLength_33 : decode cJ5_setLength 33 = .ok (.aload_n 0, 1) := dk_42 (dk_at dksJ5_setLength_1 10 rfl rfl)
theorem dJ5_setLength_34 : decode cJ5_setLength 34 = .ok (.getfield 15, 3) := dk_180 0 15 (dk_at dksJ5_setLength_1 11 rfl rfl)
theorem dJ5_setLength_37 : decode cJ5_setLength 37 = .ok (.aload_n 0, 1) := dk_42 (dk_at dksJ5_setLength_1 14 rfl rfl)
theorem dJ5_setLength_38 : decode cJ5_setLength 38 = .ok (.getfield 79, 3) := dk_180 0 79 (dk_at dksJ5_setLength_1 15 rfl rfl)
theorem dJ5_setLength_41 : decode cJ5_setLength 41 = .ok (.iload_n 1, 1) := dk_27 (dk_at dksJ5_setLength_1 18 rfl rfl)
theorem dJ5_setLength_42 : decode cJ5_setLength 42 = .ok (.invokestatic 133, 3) := dk_184 0 133 (dk_at dksJ5_setLength_1 19 rfl rfl)
theorem dJ5_setLength_45 : decode cJ5_setLength 45 = .ok (.goto 31, 3) := dk_167 0 31 (dk_at dksJ5_setLength_2 0 rfl rfl)
theorem dJ5_setLength_48 : decode cJ5_setLength 48 = .ok (.aload_n 0, 1) := dk_42 (dk_at dksJ5_setLength_2 3 rfl rfl)
theorem dJ5_setLength_49 : decode cJ5_setLength 49 = .ok (.getfield 15, 3) := dk_180 0 15 (dk_at dksJ5_setLength_2 4 rfl rfl)
theorem dJ5_setLength_52 : decode cJ5_setLength 52 = .ok (.aload_n 0, 1) := dk_42 (dk_at dksJ5_setLength_2 7 rfl rfl)
theorem dJ5_setLength_53 : decode cJ5_setLength 53 = .ok (.getfield 79, 3) := dk_180 0 79 (dk_at dksJ5_setLength_2 8 rfl rfl)
theorem dJ5_setLength_56 : decode cJ5_setLength 56 = .ok (.iload_n 1, 1) := dk_27 (dk_at dksJ5_setLength_2 11 rfl rfl)
theorem dJ5_setLength_57 : decode cJ5_setLength 57 = .ok (.invokestatic 137, 3) := dk_184 0 137 (dk_at dksJ5_setLength_2 12 rfl rfl)
theorem dJ5_setLength_60 : decode cJ5_setLength 60 = .ok (.goto 16, 3) := dk_167 0 16 (dk_at dksJ5_setLength_2 15 rfl rfl)
theorem dJ5_setLength_63 : decode cJ5_setLength 63 = .ok (.aload_n 0, 1) := dk_42 (dk_at dksJ5_setLength_2 18 rfl rfl)
theorem dJ5_setLength_64 : decode cJ5_setLength 64 = .ok (.getfield 79, 3) := dk_180 0 79 (dk_at dksJ5_setLength_2 19 rfl rfl)
theorem dJ5_setLength_67 : decode cJ5_setLength 67 = .ok (.iload_n 1, 1) := dk_27 (dk_at dksJ5_setLength_2 22 rfl rfl)
theorem dJ5_setLength_68 : decode cJ5_setLength 68 = .ok (.if_icmp .le 8, 3) := dk_164 0 8 (dk_at dksJ5_setLength_3 0 rfl rfl)
theorem dJ5_setLength_71 : decode cJ5_setLength 71 = .ok (.aload_n 0, 1) := dk_42 (dk_at dksJ5_setLength_3 3 rfl rfl)
theorem dJ5_setLength_72 : decode cJ5_setLength 72 = .ok (.iconst 1, 1) := dk_4 (dk_at dksJ5_setLength_3 4 rfl rfl)
theorem dJ5_setLength_73 : decode cJ5_setLength 73 = .ok (.putfield 73, 3) := dk_181 0 73 (dk_at dksJ5_setLength_3 5 rfl rfl)
theorem dJ5_setLength_76 : decode cJ5_setLength 76 = .ok (.aload_n 0, 1) := dk_42 (dk_at dksJ5_setLength_3 8 rfl rfl)
theorem dJ5_setLength_77 : decode cJ5_setLength 77 = .ok (.iload_n 1, 1) := dk_27 (dk_at dksJ5_setLength_3 9 rfl rfl)
theorem dJ5_setLength_78 : decode cJ5_setLength 78 = .ok (.putfield 79, 3) := dk_181 0 79 (dk_at dksJ5_setLength_3 10 rfl rfl)
theorem dJ5_setLength_81 : decode cJ5_setLength 81 = .ok (.return_, 1) := dk_177 (dk_at dksJ5_setLength_3 13 rfl rfl)
abbrev cJ5_ensureCapacityInternal : ByteArray := prog_10_method_9_code
def yJ5_ensureCapacityInternal : MethodName := ⟨RJ5, "ensureCapacityInternal", "(I)V"⟩
def dkwJ5_ensureCapacityInternal_1 : List UInt8 := [182, 0, 104, 42, 180, 0, 22, 120, 184, 0, 108, 181, 0, 15, 177]
abbrev dktJ5_ensureCapacityInternal_1 : List UInt8 := dkwJ5_ensureCapacityInternal_1 ++ []
def dkwJ5_ensureCapacityInternal_0 : List UInt8 := [42, 180, 0, 15, 190, 42, 180, 0, 22, 122, 61, 27, 28, 100, 158, 0, 24, 42, 42, 180, 0, 15, 42, 27]
abbrev dktJ5_ensureCapacityInternal_0 : List UInt8 := dkwJ5_ensureCapacityInternal_0 ++ dktJ5_ensureCapacityInternal_1
theorem dksJ5_ensureCapacityInternal_0 : cJ5_ensureCapacityInternal.data.toList.drop 0 = dktJ5_ensureCapacityInternal_0 := by decide +kernel
theorem dksJ5_ensureCapacityInternal_1 : cJ5_ensureCapacityInternal.data.toList.drop 24 = dktJ5_ensureCapacityInternal_1 := dk_seg dksJ5_ensureCapacityInternal_0 24 rfl rfl
theorem dJ5_ensureCapacityInternal_0 : decode cJ5_ensureCapacityInternal 0 = .ok (.aload_n 0, 1) := dk_42 (dk_at dksJ5_ensureCapacityInternal_0 0 rfl rfl)
theorem dJ5_ensureCapacityInternal_1 : decode cJ5_ensureCapacityInternal 1 = .ok (.getfield 15, 3) := dk_180 0 15 (dk_at dksJ5_ensureCapacityInternal_0 1 rfl rfl)
theorem dJ5_ensureCapacityInternal_4 : decode cJ5_ensureCapacityInternal 4 = .ok (.arraylength, 1) := dk_190 (dk_at dksJ5_ensureCapacityInternal_0 4 rfl rfl)
theorem dJ5_ensureCapacityInternal_5 : decode cJ5_ensureCapacityInternal 5 = .ok (.aload_n 0, 1) := dk_42 (dk_at dksJ5_ensureCapacityInternal_0 5 rfl rfl)
theorem dJ5_ensureCapacityInternal_6 : decode cJ5_ensureCapacityInternal 6 = .ok (.getfield 22, 3) := dk_180 0 22 (dk_at dksJ5_ensureCapacityInternal_0 6 rfl rfl)
theorem dJ5_ensureCapacityInternal_9 : decode cJ5_ensureCapacityInternal 9 = .ok (.ishr, 1) := dk_122 (dk_at dksJ5_ensureCapacityInternal_0 9 rfl rfl)
theorem dJ5_ensureCapacityInternal_10 : decode cJ5_ensureCapacityInternal 10 = .ok (.istore_n 2, 1) := dk_61 (dk_at dksJ5_ensureCapacityInternal_0 10 rfl rfl)
theorem dJ5_ensureCapacityInternal_11 : decode cJ5_ensureCapacityInternal 11 = .ok (.iload_n 1, 1) := dk_27 (dk_at dksJ5_ensureCapacityInternal_0 11 rfl rfl)
theorem dJ5_ensureCapacityInternal_12 : decode cJ5_ensureCapacityInternal 12 = .ok (.iload_n 2, 1) := dk_28 (dk_at dksJ5_ensureCapacityInternal_0 12 rfl rfl)
theorem dJ5_ensureCapacityInternal_13 : decode cJ5_ensureCapacityInternal 13 = .ok (.isub, 1) := dk_100 (dk_at dksJ5_ensureCapacityInternal_0 13 rfl rfl)
theorem dJ5_ensureCapacityInternal_14 : decode cJ5_ensureCapacityInternal 14 = .ok (.ifCond .le 24, 3) := dk_158 0 24 (dk_at dksJ5_ensureCapacityInternal_0 14 rfl rfl)
theorem dJ5_ensureCapacityInternal_17 : decode cJ5_ensureCapacityInternal 17 = .ok (.aload_n 0, 1) := dk_42 (dk_at dksJ5_ensureCapacityInternal_0 17 rfl rfl)
theorem dJ5_ensureCapacityInternal_18 : decode cJ5_ensureCapacityInternal 18 = .ok (.aload_n 0, 1) := dk_42 (dk_at dksJ5_ensureCapacityInternal_0 18 rfl rfl)
theorem dJ5_ensureCapacityInternal_19 : decode cJ5_ensureCapacityInternal 19 = .ok (.getfield 15, 3) := dk_180 0 15 (dk_at dksJ5_ensureCapacityInternal_0 19 rfl rfl)
theorem dJ5_ensureCapacityInternal_22 : decode cJ5_ensureCapacityInternal 22 = .ok (.aload_n 0, 1) := dk_42 (dk_at dksJ5_ensureCapacityInternal_0 22 rfl rfl)
theorem dJ5_ensureCapacityInternal_23 : decode cJ5_ensureCapacityInternal 23 = .ok (.iload_n 1, 1) := dk_27 (dk_at dksJ5_ensureCapacityInternal_0 23 rfl rfl)
theorem dJ5_ensureCapacityInternal_24 : decode cJ5_ensureCapacityInternal 24 = .ok (.invokevirtual 104, 3) := dk_182 0 104 (dk_at dksJ5_ensureCapacityInternal_1 0 rfl rfl)
theorem dJ5_ensureCapacityInternal_27 : decode cJ5_ensureCapacityInternal 27 = .ok (.aload_n 0, 1) := dk_42 (dk_at dksJ5_ensureCapacityInternal_1 3 rfl rfl)
theorem dJ5_ensureCapacityInternal_28 : decode cJ5_ensureCapacityInternal 28 = .ok (.getfield 22, 3) := dk_180 0 22 (dk_at dksJ5_ensureCapacityInternal_1 4 rfl rfl)
theorem dJ5_ensureCapacityInternal_31 : decode cJ5_ensureCapacityInternal 31 = .ok (.ishl, 1) := dk_120 (dk_at dksJ5_ensureCapacityInternal_1 7 rfl rfl)
theorem dJ5_ensureCapacityInternal_32 : decode cJ5_ensureCapacityInternal 32 = .ok (.invokestatic 108, 3) := dk_184 0 108 (dk_at dksJ5_ensureCapacityInternal_1 8 rfl rfl)
theorem dJ5_ensureCapacityInternal_35 : decode cJ5_ensureCapacityInternal 35 = .ok (.putfield 15, 3) := dk_181 0 15 (dk_at dksJ5_ensureCapacityInternal_1 11 rfl rfl)
theorem dJ5_ensureCapacityInternal_38 : decode cJ5_ensureCapacityInternal 38 = .ok (.return_, 1) := dk_177 (dk_at dksJ5_ensureCapacityInternal_1 14 rfl rfl)
abbrev cJ5_isLatin1 : ByteArray := prog_10_method_68_code
def yJ5_isLatin1 : MethodName := ⟨RJ5, "isLatin1", "()Z"⟩
def dkwJ5_isLatin1_0 : List UInt8 := [178, 0, 18, 153, 0, 14, 42, 180, 0, 22, 154, 0, 7, 4, 167, 0, 4, 3, 172]
abbrev dktJ5_isLatin1_0 : List UInt8 := dkwJ5_isLatin1_0 ++ []
theorem dksJ5_isLatin1_0 : cJ5_isLatin1.data.toList.drop 0 = dktJ5_isLatin1_0 := by decide +kernel
theorem dJ5_isLatin1_0 : decode cJ5_isLatin1 0 = .ok (.getstatic 18, 3) := dk_178 0 18 (dk_at dksJ5_isLatin1_0 0 rfl rfl)
theorem dJ5_isLatin1_3 : decode cJ5_isLatin1 3 = .ok (.ifCond .eq 14, 3) := dk_153 0 14 (dk_at dksJ5_isLatin1_0 3 rfl rfl)
theorem dJ5_isLatin1_6 : decode cJ5_isLatin1 6 = .ok (.aload_n 0, 1) := dk_42 (dk_at dksJ5_isLatin1_0 6 rfl rfl)
theorem dJ5_isLatin1_7 : decode cJ5_isLatin1 7 = .ok (.getfield 22, 3) := dk_180 0 22 (dk_at dksJ5_isLatin1_0 7 rfl rfl)
theorem dJ5_isLatin1_10 : decode cJ5_isLatin1 10 = .ok (.ifCond .ne 7, 3) := dk_154 0 7 (dk_at dksJ5_isLatin1_0 10 rfl rfl)
theorem dJ5_isLatin1_13 : decode cJ5_isLatin1 13 = .ok (.iconst 1, 1) := dk_4 (dk_at dksJ5_isLatin1_0 13 rfl rfl)
theorem dJ5_isLatin1_14 : decode cJ5_isLatin1 14 = .ok (.goto 4, 3) := dk_167 0 4 (dk_at dksJ5_isLatin1_0 14 rfl rfl)
theorem dJ5_isLatin1_17 : decode cJ5_isLatin1 17 = .ok (.iconst 0, 1) := dk_3 (dk_at dksJ5_isLatin1_0 17 rfl rfl)
theorem dJ5_isLatin1_18 : decode cJ5_isLatin1 18 = .ok (.ireturn, 1) := dk_172 (dk_at dksJ5_isLatin1_0 18 rfl rfl)
abbrev cJ5_getValue : ByteArray := prog_10_method_64_code
def yJ5_getValue : MethodName := ⟨RJ5, "getValue", "()[B"⟩
theorem dJ5_getValue_0 : decode cJ5_getValue 0 = .ok (.aload_n 0, 1) := by decide +kernel
theorem dJ5_getValue_1 : decode cJ5_getValue 1 = .ok (.getfield 15, 3) := by decide +kernel
theorem dJ5_getValue_4 : decode cJ5_getValue 4 = .ok (.areturn, 1) := by decide +kernel
abbrev cJ5_charAt : ByteArray := prog_10_method_14_code
def yJ5_charAt : MethodName := ⟨RJ5, "charAt", "(I)C"⟩
def dkwJ5_charAt_1 : List UInt8 := [21, 4, 184, 0, 144, 28, 154, 0, 12, 45, 27, 51, 17, 0, 255, 126, 146, 172, 45, 27, 184, 0, 148, 172]
abbrev dktJ5_charAt_1 : List UInt8 := dkwJ5_charAt_1 ++ []
def dkwJ5_charAt_0 : List UInt8 := [42, 180, 0, 22, 61, 42, 180, 0, 15, 78, 42, 180, 0, 79, 45, 190, 28, 122, 184, 0, 138, 54, 4, 27]
abbrev dktJ5_charAt_0 : List UInt8 := dkwJ5_charAt_0 ++ dktJ5_charAt_1
theorem dksJ5_charAt_0 : cJ5_charAt.data.toList.drop 0 = dktJ5_charAt_0 := by decide +kernel
theorem dksJ5_charAt_1 : cJ5_charAt.data.toList.drop 24 = dktJ5_charAt_1 := dk_seg dksJ5_charAt_0 24 rfl rfl
theorem dJ5_charAt_0 : decode cJ5_charAt 0 = .ok (.aload_n 0, 1) := dk_42 (dk_at dksJ5_charAt_0 0 rfl rfl)
theorem dJ5_charAt_1 : decode cJ5_charAt 1 = .ok (.getfield 22, 3) := dk_180 0 22 (dk_at dksJ5_charAt_0 1 rfl rfl)
theorem dJ5_charAt_4 : decode cJ5_charAt 4 = .ok (.istore_n 2, 1) := dk_61 (dk_at dksJ5_charAt_0 4 rfl rfl)
theorem dJ5_charAt_5 : decode cJ5_charAt 5 = .ok (.aload_n 0, 1) := dk_42 (dk_at dksJ5_charAt_0 5 rfl rfl)
theorem dJ5_charAt_6 : decode cJ5_charAt 6 = .ok (.getfield 15, 3) := dk_180 0 15 (dk_at dksJ5_charAt_0 6 rfl rfl)
theorem dJ5_charAt_9 : decode cJ5_charAt 9 = .ok (.astore_n 3, 1) := dk_78 (dk_at dksJ5_charAt_0 9 rfl rfl)
theorem dJ5_charAt_10 : decode cJ5_charAt 10 = .ok (.aload_n 0, 1) := dk_42 (dk_at dksJ5_charAt_0 10 rfl rfl)
theorem dJ5_charAt_11 : decode cJ5_charAt 11 = .ok (.getfield 79, 3) := dk_180 0 79 (dk_at dksJ5_charAt_0 11 rfl rfl)
theorem dJ5_charAt_14 : decode cJ5_charAt 14 = .ok (.aload_n 3, 1) := dk_45 (dk_at dksJ5_charAt_0 14 rfl rfl)
theorem dJ5_charAt_15 : decode cJ5_charAt 15 = .ok (.arraylength, 1) := dk_190 (dk_at dksJ5_charAt_0 15 rfl rfl)
theorem dJ5_charAt_16 : decode cJ5_charAt 16 = .ok (.iload_n 2, 1) := dk_28 (dk_at dksJ5_charAt_0 16 rfl rfl)
theorem dJ5_charAt_17 : decode cJ5_charAt 17 = .ok (.ishr, 1) := dk_122 (dk_at dksJ5_charAt_0 17 rfl rfl)
theorem dJ5_charAt_18 : decode cJ5_charAt 18 = .ok (.invokestatic 138, 3) := dk_184 0 138 (dk_at dksJ5_charAt_0 18 rfl rfl)
theorem dJ5_charAt_21 : decode cJ5_charAt 21 = .ok (.istore 4, 2) := dk_54 4 (dk_at dksJ5_charAt_0 21 rfl rfl)
theorem dJ5_charAt_23 : decode cJ5_charAt 23 = .ok (.iload_n 1, 1) := dk_27 (dk_at dksJ5_charAt_0 23 rfl rfl)
theorem dJ5_charAt_24 : decode cJ5_charAt 24 = .ok (.iload 4, 2) := dk_21 4 (dk_at dksJ5_charAt_1 0 rfl rfl)
theorem dJ5_charAt_26 : decode cJ5_charAt 26 = .ok (.invokestatic 144, 3) := dk_184 0 144 (dk_at dksJ5_charAt_1 2 rfl rfl)
theorem dJ5_charAt_29 : decode cJ5_charAt 29 = .ok (.iload_n 2, 1) := dk_28 (dk_at dksJ5_charAt_1 5 rfl rfl)
theorem dJ5_charAt_30 : decode cJ5_charAt 30 = .ok (.ifCond .ne 12, 3) := dk_154 0 12 (dk_at dksJ5_charAt_1 6 rfl rfl)
theorem dJ5_charAt_33 : decode cJ5_charAt 33 = .ok (.aload_n 3, 1) := dk_45 (dk_at dksJ5_charAt_1 9 rfl rfl)
theorem dJ5_charAt_34 : decode cJ5_charAt 34 = .ok (.iload_n 1, 1) := dk_27 (dk_at dksJ5_charAt_1 10 rfl rfl)
theorem dJ5_charAt_35 : decode cJ5_charAt 35 = .ok (.baload, 1) := dk_51 (dk_at dksJ5_charAt_1 11 rfl rfl)
theorem dJ5_charAt_36 : decode cJ5_charAt 36 = .ok (.sipush 255, 3) := dk_17 0 255 (dk_at dksJ5_charAt_1 12 rfl rfl)
theorem dJ5_charAt_39 : decode cJ5_charAt 39 = .ok (.iand, 1) := dk_126 (dk_at dksJ5_charAt_1 15 rfl rfl)
theorem dJ5_charAt_40 : decode cJ5_charAt 40 = .ok (.i2c, 1) := dk_146 (dk_at dksJ5_charAt_1 16 rfl rfl)
theorem dJ5_charAt_41 : decode cJ5_charAt 41 = .ok (.ireturn, 1) := dk_172 (dk_at dksJ5_charAt_1 17 rfl rfl)
theorem dJ5_charAt_42 : decode cJ5_charAt 42 = .ok (.aload_n 3, 1) := dk_45 (dk_at dksJ5_charAt_1 18 rfl rfl)
theorem dJ5_charAt_43 : decode cJ5_charAt 43 = .ok (.iload_n 1, 1) := dk_27 (dk_at dksJ5_charAt_1 19 rfl rfl)
theorem dJ5_charAt_44 : decode cJ5_charAt 44 = .ok (.invokestatic 148, 3) := dk_184 0 148 (dk_at dksJ5_charAt_1 20 rfl rfl)
theorem dJ5_charAt_47 : decode cJ5_charAt 47 = .ok (.ireturn, 1) := dk_172 (dk_at dksJ5_charAt_1 23 rfl rfl)
abbrev cJ5_append_3 : ByteArray := prog_10_method_31_code
def yJ5_append_3 : MethodName := ⟨RJ5, "append", "(C)Ljava/lang/AbstractStringBuilder;"⟩
def dkwJ5_append_3_3 : List UInt8 := [181, 0, 79, 27, 184, 0, 197, 42, 176]
abbrev dktJ5_append_3_3 : List UInt8 := dkwJ5_append_3_3 ++ []
def dkwJ5_append_3_2 : List UInt8 := [182, 0, 83, 153, 0, 7, 42, 182, 0, 195, 42, 180, 0, 15, 42, 89, 180, 0, 79, 90, 4, 96]
abbrev dktJ5_append_3_2 : List UInt8 := dkwJ5_append_3_2 ++ dktJ5_append_3_3
def dkwJ5_append_3_1 : List UInt8 := [42, 180, 0, 15, 42, 89, 180, 0, 79, 90, 4, 96, 181, 0, 79, 27, 145, 84, 167, 0, 33, 42]
abbrev dktJ5_append_3_1 : List UInt8 := dkwJ5_append_3_1 ++ dktJ5_append_3_2
def dkwJ5_append_3_0 : List UInt8 := [42, 42, 180, 0, 79, 4, 96, 182, 0, 100, 42, 182, 0, 83, 153, 0, 31, 27, 184, 0, 191, 153, 0, 24]
abbrev dktJ5_append_3_0 : List UInt8 := dkwJ5_append_3_0 ++ dktJ5_append_3_1
theorem dksJ5_append_3_0 : cJ5_append_3.data.toList.drop 0 = dktJ5_append_3_0 := by decide +kernel
theorem dksJ5_append_3_1 : cJ5_append_3.data.toList.drop 24 = dktJ5_append_3_1 := dk_seg dksJ5_append_3_0 24 rfl rfl
theorem dksJ5_append_3_2 : cJ5_append_3.data.toList.drop 46 = dktJ5_append_3_2 := dk_seg dksJ5_append_3_1 22 rfl rfl
theorem dksJ5_append_3_3 : cJ5_append_3.data.toList.drop 68 = dktJ5_append_3_3 := dk_seg dksJ5_append_3_2 22 rfl rfl
theorem dJ5_append_3_0 : decode cJ5_append_3 0 = .ok (.aload_n 0, 1) := dk_42 (dk_at dksJ5_append_3_0 0 rfl rfl)
theorem dJ5_append_3_1 : decode cJ5_append_3 1 = .ok (.aload_n 0, 1) := dk_42 (dk_at dksJ5_append_3_0 1 rfl rfl)
theorem dJ5_append_3_2 : decode cJ5_append_3 2 = .ok (.getfield 79, 3) := dk_180 0 79 (dk_at dksJ5_append_3_0 2 rfl rfl)
theorem dJ5_append_3_5 : decode cJ5_append_3 5 = .ok (.iconst 1, 1) := dk_4 (dk_at dksJ5_append_3_0 5 rfl rfl)
theorem dJ5_append_3_6 : decode cJ5_append_3 6 = .ok (.iadd, 1) := dk_96 (dk_at dksJ5_append_3_0 6 rfl rfl)
theorem dJ5_append_3_7 : decode cJ5_append_3 7 = .ok (.invokevirtual 100, 3) := dk_182 0 100 (dk_at dksJ5_append_3_0 7 rfl rfl)
theorem dJ5_append_3_10 : decode cJ5_append_3 10 = .ok (.aload_n 0, 1) := dk_42 (dk_at dksJ5_append_3_0 10 rfl rfl)
theorem dJ5_append_3_11 : decode cJ5_append_3 11 = .ok (.invokevirtual 83, 3) := dk_182 0 83 (dk_at dksJ5_append_3_0 11 rfl rfl)
theorem dJ5_append_3_14 : decode cJ5_append_3 14 = .ok (.ifCond .eq 31, 3) := dk_153 0 31 (dk_at dksJ5_append_3_0 14 rfl rfl)
theorem dJ5_append_3_17 : decode cJ5_append_3 17 = .ok (.iload_n 1, 1) := dk_27 (dk_at dksJ5_append_3_0 17 rfl rfl)
theorem dJ5_append_3_18 : decode cJ5_append_3 18 = .ok (.invokestatic 191, 3) := dk_184 0 191 (dk_at dksJ5_append_3_0 18 rfl rfl)
theorem dJ5_append_3_21 : decode cJ5_append_3 21 = .ok (.ifCond .eq 24, 3) := dk_153 0 24 (dk_at dksJ5_append_3_0 21 rfl rfl)
theorem dJ5_append_3_24 : decode cJ5_append_3 24 = .ok (.aload_n 0, 1) := dk_42 (dk_at dksJ5_append_3_1 0 rfl rfl)
theorem dJ5_append_3_25 : decode cJ5_append_3 25 = .ok (.getfield 15, 3) := dk_180 0 15 (dk_at dksJ5_append_3_1 1 rfl rfl)
theorem dJ5_append_3_28 : decode cJ5_append_3 28 = .ok (.aload_n 0, 1) := dk_42 (dk_at dksJ5_append_3_1 4 rfl rfl)
theorem dJ5_append_3_29 : decode cJ5_append_3 29 = .ok (.dup, 1) := dk_89 (dk_at dksJ5_append_3_1 5 rfl rfl)
theorem dJ5_append_3_30 : decode cJ5_append_3 30 = .ok (.getfield 79, 3) := dk_180 0 79 (dk_at dksJ5_append_3_1 6 rfl rfl)
theorem dJ5_append_3_33 : decode cJ5_append_3 33 = .ok (.dup_x1, 1) := dk_90 (dk_at dksJ5_append_3_1 9 rfl rfl)
theorem dJ5_append_3_34 : decode cJ5_append_3 34 = .ok (.iconst 1, 1) := dk_4 (dk_at dksJ5_append_3_1 10 rfl rfl)
theorem dJ5_append_3_35 : decode cJ5_append_3 35 = .ok (.iadd, 1) := dk_96 (dk_at dksJ5_append_3_1 11 rfl rfl)
theorem dJ5_append_3_36 : decode cJ5_append_3 36 = .ok (.putfield 79, 3) := dk_181 0 79 (dk_at dksJ5_append_3_1 12 rfl rfl)
theorem dJ5_append_3_39 : decode cJ5_append_3 39 = .ok (.iload_n 1, 1) := dk_27 (dk_at dksJ5_append_3_1 15 rfl rfl)
theorem dJ5_append_3_40 : decode cJ5_append_3 40 = .ok (.i2b, 1) := dk_145 (dk_at dksJ5_append_3_1 16 rfl rfl)
theorem dJ5_append_3_41 : decode cJ5_append_3 41 = .ok (.bastore, 1) := dk_84 (dk_at dksJ5_append_3_1 17 rfl rfl)
theorem dJ5_append_3_42 : decode cJ5_append_3 42 = .ok (.goto 33, 3) := dk_167 0 33 (dk_at dksJ5_append_3_1 18 rfl rfl)
theorem dJ5_append_3_45 : decode cJ5_append_3 45 = .ok (.aload_n 0, 1) := dk_42 (dk_at dksJ5_append_3_1 21 rfl rfl)
theorem dJ5_append_3_46 : decode cJ5_append_3 46 = .ok (.invokevirtual 83, 3) := dk_182 0 83 (dk_at dksJ5_append_3_2 0 rfl rfl)
theorem dJ5_append_3_49 : decode cJ5_append_3 49 = .ok (.ifCond .eq 7, 3) := dk_153 0 7 (dk_at dksJ5_append_3_2 3 rfl rfl)
theorem dJ5_append_3_52 : decode cJ5_append_3 52 = .ok (.aload_n 0, 1) := dk_42 (dk_at dksJ5_append_3_2 6 rfl rfl)
theorem dJ5_append_3_53 : decode cJ5_append_3 53 = .ok (.invokevirtual 195, 3) := dk_182 0 195 (dk_at dksJ5_append_3_2 7 rfl rfl)
theorem dJ5_append_3_56 : decode cJ5_append_3 56 = .ok (.aload_n 0, 1) := dk_42 (dk_at dksJ5_append_3_2 10 rfl rfl)
theorem dJ5_append_3_57 : decode cJ5_append_3 57 = .ok (.getfield 15, 3) := dk_180 0 15 (dk_at dksJ5_append_3_2 11 rfl rfl)
theorem dJ5_append_3_60 : decode cJ5_append_3 60 = .ok (.aload_n 0, 1) := dk_42 (dk_at dksJ5_append_3_2 14 rfl rfl)
theorem dJ5_append_3_61 : decode cJ5_append_3 61 = .ok (.dup, 1) := dk_89 (dk_at dksJ5_append_3_2 15 rfl rfl)
theorem dJ5_append_3_62 : decode cJ5_append_3 62 = .ok (.getfield 79, 3) := dk_180 0 79 (dk_at dksJ5_append_3_2 16 rfl rfl)
theorem dJ5_append_3_65 : decode cJ5_append_3 65 = .ok (.dup_x1, 1) := dk_90 (dk_at dksJ5_append_3_2 19 rfl rfl)
theorem dJ5_append_3_66 : decode cJ5_append_3 66 = .ok (.iconst 1, 1) := dk_4 (dk_at dksJ5_append_3_2 20 rfl rfl)
theorem dJ5_append_3_67 : decode cJ5_append_3 67 = .ok (.iadd, 1) := dk_96 (dk_at dksJ5_append_3_2 21 rfl rfl)
theorem dJ5_append_3_68 : decode cJ5_append_3 68 = .ok (.putfield 79, 3) := dk_181 0 79 (dk_at dksJ5_append_3_3 0 rfl rfl)
theorem dJ5_append_3_71 : decode cJ5_append_3 71 = .ok (.iload_n 1, 1) := dk_27 (dk_at dksJ5_append_3_3 3 rfl rfl)
theorem dJ5_append_3_72 : decode cJ5_append_3 72 = .ok (.invokestatic 197, 3) := dk_184 0 197 (dk_at dksJ5_append_3_3 4 rfl rfl)
theorem dJ5_append_3_75 : decode cJ5_append_3 75 = .ok (.aload_n 0, 1) := dk_42 (dk_at dksJ5_append_3_3 7 rfl rfl)
theorem dJ5_append_3_76 : decode cJ5_append_3 76 = .ok (.areturn, 1) := dk_176 (dk_at dksJ5_append_3_3 8 rfl rfl)
theorem q79 : (Jvm.Cond.initialized "java/lang/AbstractStringBuilder") ∈ lw_all := lw_g (lw_at lw_m1 8 rfl) rfl
theorem q240 : (Jvm.Cond.instanceMethod ({ cls := "java/lang/AbstractStringBuilder", name := "<init>", desc := "(I)V" } : Jvm.MethodName)) ∈ lw_all := lw_g (lw_at lw_m1 169 rfl) rfl
theorem q241 : (Jvm.Cond.code ({ cls := "java/lang/AbstractStringBuilder", name := "<init>", desc := "(I)V" } : Jvm.MethodName) prog_10_method_2_code (2 : Nat) (Option.none : Option Jvm.ClassFile.FieldType)) ∈ lw_all := lw_g (lw_at lw_m1 170 rfl) rfl
theorem q242 : (Jvm.Cond.methodLink "java/lang/AbstractStringBuilder" (3 : Nat) ({ cls := "java/lang/Object", name := "<init>", desc := "()V" } : Jvm.MethodName)) ∈ lw_all := lw_g (lw_at lw_m1 171 rfl) rfl
theorem q243 : (Jvm.Cond.fieldLink "java/lang/AbstractStringBuilder" (18 : Nat) "java/lang/String" "COMPACT_STRINGS" "Z") ∈ lw_all := lw_g (lw_at lw_m1 172 rfl) rfl
theorem q245 : (Jvm.Cond.methodLink "java/lang/AbstractStringBuilder" (26 : Nat) ({ cls := "java/lang/StringUTF16", name := "newBytesFor", desc := "(I)[B" } : Jvm.MethodName)) ∈ lw_all := lw_g (lw_at lw_m1 174 rfl) rfl
theorem q252 : (Jvm.Cond.fieldLink "java/lang/AbstractStringBuilder" (15 : Nat) "java/lang/AbstractStringBuilder" "value" "[B") ∈ lw_all := lw_g (lw_at lw_m1 181 rfl) rfl
theorem q253 : (Jvm.Cond.fieldLink "java/lang/AbstractStringBuilder" (22 : Nat) "java/lang/AbstractStringBuilder" "coder" "B") ∈ lw_all := lw_g (lw_at lw_m1 182 rfl) rfl
theorem q254 : (Jvm.Cond.fieldLink "java/lang/AbstractStringBuilder" (73 : Nat) "java/lang/AbstractStringBuilder" "maybeLatin1" "Z") ∈ lw_all := lw_g (lw_at lw_m1 183 rfl) rfl
theorem q256 : (Jvm.Cond.fieldLink "java/lang/AbstractStringBuilder" (79 : Nat) "java/lang/AbstractStringBuilder" "count" "I") ∈ lw_all := lw_g (lw_at lw_m1 185 rfl) rfl
theorem q258 : (Jvm.Cond.soleField "java/lang/AbstractStringBuilder" "value") ∈ lw_all := lw_g (lw_at lw_m1 187 rfl) rfl
theorem q260 : (Jvm.Cond.soleField "java/lang/AbstractStringBuilder" "coder") ∈ lw_all := lw_g (lw_at lw_m1 189 rfl) rfl
theorem q262 : (Jvm.Cond.soleField "java/lang/AbstractStringBuilder" "maybeLatin1") ∈ lw_all := lw_g (lw_at lw_m1 191 rfl) rfl
theorem q264 : (Jvm.Cond.soleField "java/lang/AbstractStringBuilder" "count") ∈ lw_all := lw_g (lw_at lw_m1 193 rfl) rfl
theorem q293 : (Jvm.Cond.instanceMethod ({ cls := "java/lang/AbstractStringBuilder", name := "length", desc := "()I" } : Jvm.MethodName)) ∈ lw_all := lw_g (lw_at lw_m1 222 rfl) rfl
theorem q294 : (Jvm.Cond.code ({ cls := "java/lang/AbstractStringBuilder", name := "length", desc := "()I" } : Jvm.MethodName) prog_10_method_6_code (1 : Nat) (Option.some Jvm.ClassFile.FieldType.int)) ∈ lw_all := lw_g (lw_at lw_m1 223 rfl) rfl
theorem q300 : (Jvm.Cond.instanceMethod ({ cls := "java/lang/AbstractStringBuilder", name := "setLength", desc := "(I)V" } : Jvm.MethodName)) ∈ lw_all := lw_g (lw_at lw_m1 229 rfl) rfl
theorem q301 : (Jvm.Cond.code ({ cls := "java/lang/AbstractStringBuilder", name := "setLength", desc := "(I)V" } : Jvm.MethodName) prog_10_method_13_code (2 : Nat) (Option.none : Option Jvm.ClassFile.FieldType)) ∈ lw_all := lw_g (lw_at lw_m1 230 rfl) rfl
theorem q302 : (Jvm.Cond.classLink "java/lang/AbstractStringBuilder" (129 : Nat) "java/lang/StringIndexOutOfBoundsException") ∈ lw_all := lw_g (lw_at lw_m1 231 rfl) rfl
theorem q304 : (Jvm.Cond.methodLink "java/lang/AbstractStringBuilder" (131 : Nat) ({ cls := "java/lang/StringIndexOutOfBoundsException", name := "<init>", desc := "(I)V" } : Jvm.MethodName)) ∈ lw_all := lw_g (lw_at lw_m1 233 rfl) rfl
theorem q317 : (Jvm.Cond.instanceMethod ({ cls := "java/lang/AbstractStringBuilder", name := "append", desc := "(Ljava/lang/String;)Ljava/lang/AbstractStringBuilder;" } : Jvm.MethodName)) ∈ lw_all := lw_g (lw_at lw_m2 6 rfl) rfl
theorem q318 : (Jvm.Cond.code ({ cls := "java/lang/AbstractStringBuilder", name := "append", desc := "(Ljava/lang/String;)Ljava/lang/AbstractStringBuilder;" } : Jvm.MethodName) prog_10_method_22_code (3 : Nat) (Option.some (Jvm.ClassFile.FieldType.object "java/lang/AbstractStringBuilder"))) ∈ lw_all := lw_g (lw_at lw_m2 7 rfl) rfl
theorem q319 : (Jvm.Cond.methodLink "java/lang/AbstractStringBuilder" (204 : Nat) ({ cls := "java/lang/AbstractStringBuilder", name := "appendNull", desc := "()Ljava/lang/AbstractStringBuilder;" } : Jvm.MethodName)) ∈ lw_all := lw_g (lw_at lw_m2 8 rfl) rfl
theorem q320 : (Jvm.Cond.privateMethod ({ cls := "java/lang/AbstractStringBuilder", name := "appendNull", desc := "()Ljava/lang/AbstractStringBuilder;" } : Jvm.MethodName)) ∈ lw_tbl := lw_at lw_m2 9 rfl
theorem q321 : (Jvm.Cond.instanceMethod ({ cls := "java/lang/AbstractStringBuilder", name := "appendNull", desc := "()Ljava/lang/AbstractStringBuilder;" } : Jvm.MethodName)) ∈ lw_all := lw_g (lw_at lw_m2 10 rfl) rfl
theorem q322 : (Jvm.Cond.code ({ cls := "java/lang/AbstractStringBuilder", name := "appendNull", desc := "()Ljava/lang/AbstractStringBuilder;" } : Jvm.MethodName) prog_10_method_26_code (3 : Nat) (Option.some (Jvm.ClassFile.FieldType.object "java/lang/AbstractStringBuilder"))) ∈ lw_all := lw_g (lw_at lw_m2 11 rfl) rfl
theorem q323 : (Jvm.Cond.methodLink "java/lang/AbstractStringBuilder" (100 : Nat) ({ cls := "java/lang/AbstractStringBuilder", name := "ensureCapacityInternal", desc := "(I)V" } : Jvm.MethodName)) ∈ lw_all := lw_g (lw_at lw_m2 12 rfl) rfl
theorem q324 : (Jvm.Cond.privateMethod ({ cls := "java/lang/AbstractStringBuilder", name := "ensureCapacityInternal", desc := "(I)V" } : Jvm.MethodName)) ∈ lw_tbl := lw_at lw_m2 13 rfl
theorem q325 : (Jvm.Cond.instanceMethod ({ cls := "java/lang/AbstractStringBuilder", name := "ensureCapacityInternal", desc := "(I)V" } : Jvm.MethodName)) ∈ lw_all := lw_g (lw_at lw_m2 14 rfl) rfl
theorem q326 : (Jvm.Cond.code ({ cls := "java/lang/AbstractStringBuilder", name := "ensureCapacityInternal", desc := "(I)V" } : Jvm.MethodName) prog_10_method_9_code (3 : Nat) (Option.none : Option Jvm.ClassFile.FieldType)) ∈ lw_all := lw_g (lw_at lw_m2 15 rfl) rfl
theorem q327 : (Jvm.Cond.methodLink "java/lang/AbstractStringBuilder" (104 : Nat) ({ cls := "java/lang/AbstractStringBuilder", name := "newCapacity", desc := "(I)I" } : Jvm.MethodName)) ∈ lw_all := lw_g (lw_at lw_m2 16 rfl) rfl
theorem q328 : (Jvm.Cond.privateMethod ({ cls := "java/lang/AbstractStringBuilder", name := "newCapacity", desc := "(I)I" } : Jvm.MethodName)) ∈ lw_tbl := lw_at lw_m2 17 rfl
theorem q329 : (Jvm.Cond.instanceMethod ({ cls := "java/lang/AbstractStringBuilder", name := "newCapacity", desc := "(I)I" } : Jvm.MethodName)) ∈ lw_all := lw_g (lw_at lw_m2 18 rfl) rfl
theorem q330 : (Jvm.Cond.code ({ cls := "java/lang/AbstractStringBuilder", name := "newCapacity", desc := "(I)I" } : Jvm.MethodName) prog_10_method_10_code (6 : Nat) (Option.some Jvm.ClassFile.FieldType.int)) ∈ lw_all := lw_g (lw_at lw_m2 19 rfl) rfl
theorem q331 : (Jvm.Cond.methodLink "java/lang/AbstractStringBuilder" (114 : Nat) ({ cls := "jdk/internal/util/ArraysSupport", name := "newLength", desc := "(III)I" } : Jvm.MethodName)) ∈ lw_all := lw_g (lw_at lw_m2 20 rfl) rfl
theorem q341 : (Jvm.Cond.constant "java/lang/AbstractStringBuilder" (39 : Nat) (2147483647 : Int32)) ∈ lw_all := lw_g (lw_at lw_m2 30 rfl) rfl
theorem q342 : (Jvm.Cond.methodLink "java/lang/AbstractStringBuilder" (108 : Nat) ({ cls := "java/util/Arrays", name := "copyOf", desc := "([BI)[B" } : Jvm.MethodName)) ∈ lw_all := lw_g (lw_at lw_m2 31 rfl) rfl
theorem q358 : (Jvm.Cond.methodLink "java/lang/AbstractStringBuilder" (83 : Nat) ({ cls := "java/lang/AbstractStringBuilder", name := "isLatin1", desc := "()Z" } : Jvm.MethodName)) ∈ lw_all := lw_g (lw_at lw_m2 47 rfl) rfl
theorem q359 : (Jvm.Cond.instanceMethod ({ cls := "java/lang/AbstractStringBuilder", name := "isLatin1", desc := "()Z" } : Jvm.MethodName)) ∈ lw_all := lw_g (lw_at lw_m2 48 rfl) rfl
theorem q360 : (Jvm.Cond.sameMethod "java/lang/AbstractStringBuilder" "java/lang/AbstractStringBuilder" "isLatin1" "()Z") ∈ lw_all := lw_g (lw_at lw_m2 49 rfl) rfl
theorem q362 : (Jvm.Cond.code ({ cls := "java/lang/AbstractStringBuilder", name := "isLatin1", desc := "()Z" } : Jvm.MethodName) prog_10_method_68_code (1 : Nat) (Option.some Jvm.ClassFile.FieldType.boolean)) ∈ lw_all := lw_g (lw_at lw_m2 51 rfl) rfl
theorem q363 : (Jvm.Cond.methodLink "java/lang/AbstractStringBuilder" (226 : Nat) ({ cls := "java/lang/StringUTF16", name := "putCharsAt", desc := "([BICCCC)I" } : Jvm.MethodName)) ∈ lw_all := lw_g (lw_at lw_m2 52 rfl) rfl
theorem q389 : (Jvm.Cond.methodLink "java/lang/AbstractStringBuilder" (32 : Nat) ({ cls := "java/lang/String", name := "length", desc := "()I" } : Jvm.MethodName)) ∈ lw_all := lw_g (lw_at lw_m2 78 rfl) rfl
theorem q398 : (Jvm.Cond.methodLink "java/lang/AbstractStringBuilder" (208 : Nat) ({ cls := "java/lang/AbstractStringBuilder", name := "putStringAt", desc := "(ILjava/lang/String;)V" } : Jvm.MethodName)) ∈ lw_all := lw_g (lw_at lw_m2 87 rfl) rfl
theorem q399 : (Jvm.Cond.privateMethod ({ cls := "java/lang/AbstractStringBuilder", name := "putStringAt", desc := "(ILjava/lang/String;)V" } : Jvm.MethodName)) ∈ lw_tbl := lw_at lw_m2 88 rfl
theorem q400 : (Jvm.Cond.instanceMethod ({ cls := "java/lang/AbstractStringBuilder", name := "putStringAt", desc := "(ILjava/lang/String;)V" } : Jvm.MethodName)) ∈ lw_all := lw_g (lw_at lw_m2 89 rfl) rfl
theorem q401 : (Jvm.Cond.code ({ cls := "java/lang/AbstractStringBuilder", name := "putStringAt", desc := "(ILjava/lang/String;)V" } : Jvm.MethodName) prog_10_method_73_code (3 : Nat) (Option.none : Option Jvm.ClassFile.FieldType)) ∈ lw_all := lw_g (lw_at lw_m2 90 rfl) rfl
theorem q402 : (Jvm.Cond.methodLink "java/lang/AbstractStringBuilder" (397 : Nat) ({ cls := "java/lang/AbstractStringBuilder", name := "inflateIfNeededFor", desc := "(Ljava/lang/String;)V" } : Jvm.MethodName)) ∈ lw_all := lw_g (lw_at lw_m2 91 rfl) rfl
theorem q403 : (Jvm.Cond.privateMethod ({ cls := "java/lang/AbstractStringBuilder", name := "inflateIfNeededFor", desc := "(Ljava/lang/String;)V" } : Jvm.MethodName)) ∈ lw_tbl := lw_at lw_m2 92 rfl
theorem q404 : (Jvm.Cond.instanceMethod ({ cls := "java/lang/AbstractStringBuilder", name := "inflateIfNeededFor", desc := "(Ljava/lang/String;)V" } : Jvm.MethodName)) ∈ lw_all := lw_g (lw_at lw_m2 93 rfl) rfl
theorem q405 : (Jvm.Cond.code ({ cls := "java/lang/AbstractStringBuilder", name := "inflateIfNeededFor", desc := "(Ljava/lang/String;)V" } : Jvm.MethodName) prog_10_method_71_code (2 : Nat) (Option.none : Option Jvm.ClassFile.FieldType)) ∈ lw_all := lw_g (lw_at lw_m2 94 rfl) rfl
theorem q406 : (Jvm.Cond.methodLink "java/lang/AbstractStringBuilder" (40 : Nat) ({ cls := "java/lang/String", name := "coder", desc := "()B" } : Jvm.MethodName)) ∈ lw_all := lw_g (lw_at lw_m2 95 rfl) rfl
theorem q407 : (Jvm.Cond.methodLink "java/lang/AbstractStringBuilder" (195 : Nat) ({ cls := "java/lang/AbstractStringBuilder", name := "inflate", desc := "()V" } : Jvm.MethodName)) ∈ lw_all := lw_g (lw_at lw_m2 96 rfl) rfl
theorem q408 : (Jvm.Cond.privateMethod ({ cls := "java/lang/AbstractStringBuilder", name := "inflate", desc := "()V" } : Jvm.MethodName)) ∈ lw_tbl := lw_at lw_m2 97 rfl
theorem q409 : (Jvm.Cond.instanceMethod ({ cls := "java/lang/AbstractStringBuilder", name := "inflate", desc := "()V" } : Jvm.MethodName)) ∈ lw_all := lw_g (lw_at lw_m2 98 rfl) rfl
theorem q410 : (Jvm.Cond.code ({ cls := "java/lang/AbstractStringBuilder", name := "inflate", desc := "()V" } : Jvm.MethodName) prog_10_method_11_code (2 : Nat) (Option.none : Option Jvm.ClassFile.FieldType)) ∈ lw_all := lw_g (lw_at lw_m2 99 rfl) rfl
theorem q411 : (Jvm.Cond.methodLink "java/lang/AbstractStringBuilder" (125 : Nat) ({ cls := "java/lang/StringLatin1", name := "inflate", desc := "([BI[BII)V" } : Jvm.MethodName)) ∈ lw_all := lw_g (lw_at lw_m2 100 rfl) rfl
theorem q426 : (Jvm.Cond.methodLink "java/lang/AbstractStringBuilder" (399 : Nat) ({ cls := "java/lang/String", name := "getBytes", desc := "([BIB)V" } : Jvm.MethodName)) ∈ lw_all := lw_g (lw_at lw_m2 115 rfl) rfl
theorem q437 : (Jvm.Cond.instanceMethod ({ cls := "java/lang/AbstractStringBuilder", name := "append", desc := "(I)Ljava/lang/AbstractStringBuilder;" } : Jvm.MethodName)) ∈ lw_all := lw_g (lw_at lw_m2 126 rfl) rfl
theorem q438 : (Jvm.Cond.code ({ cls := "java/lang/AbstractStringBuilder", name := "append", desc := "(I)Ljava/lang/AbstractStringBuilder;" } : Jvm.MethodName) prog_10_method_32_code (4 : Nat) (Option.some (Jvm.ClassFile.FieldType.object "java/lang/AbstractStringBuilder"))) ∈ lw_all := lw_g (lw_at lw_m2 127 rfl) rfl
theorem q439 : (Jvm.Cond.methodLink "java/lang/AbstractStringBuilder" (245 : Nat) ({ cls := "java/lang/Integer", name := "stringSize", desc := "(I)I" } : Jvm.MethodName)) ∈ lw_all := lw_g (lw_at lw_m2 128 rfl) rfl
theorem q442 : (Jvm.Cond.methodLink "java/lang/AbstractStringBuilder" (248 : Nat) ({ cls := "java/lang/Integer", name := "getChars", desc := "(II[B)I" } : Jvm.MethodName)) ∈ lw_all := lw_g (lw_at lw_m2 131 rfl) rfl
theorem q449 : (Jvm.Cond.methodLink "java/lang/AbstractStringBuilder" (251 : Nat) ({ cls := "java/lang/StringUTF16", name := "getChars", desc := "(III[B)I" } : Jvm.MethodName)) ∈ lw_all := lw_g (lw_at lw_m2 138 rfl) rfl
theorem q471 : (Jvm.Cond.instanceMethod ({ cls := "java/lang/AbstractStringBuilder", name := "getValue", desc := "()[B" } : Jvm.MethodName)) ∈ lw_all := lw_g (lw_at lw_m2 160 rfl) rfl
theorem q472 : (Jvm.Cond.sameMethod "java/lang/AbstractStringBuilder" "java/lang/AbstractStringBuilder" "getValue" "()[B") ∈ lw_all := lw_g (lw_at lw_m2 161 rfl) rfl
theorem q474 : (Jvm.Cond.code ({ cls := "java/lang/AbstractStringBuilder", name := "getValue", desc := "()[B" } : Jvm.MethodName) prog_10_method_64_code (1 : Nat) (Option.some (Jvm.ClassFile.FieldType.array Jvm.ClassFile.FieldType.byte))) ∈ lw_all := lw_g (lw_at lw_m2 163 rfl) rfl
theorem q597 : (Jvm.Cond.methodLink "java/lang/AbstractStringBuilder" (133 : Nat) ({ cls := "java/lang/StringLatin1", name := "fillNull", desc := "([BII)V" } : Jvm.MethodName)) ∈ lw_all := lw_g (lw_at lw_m3 46 rfl) rfl
theorem q632 : (Jvm.Cond.methodLink "java/lang/AbstractStringBuilder" (137 : Nat) ({ cls := "java/lang/StringUTF16", name := "fillNull", desc := "([BII)V" } : Jvm.MethodName)) ∈ lw_all := lw_g (lw_at lw_m3 81 rfl) rfl
theorem q697 : (Jvm.Cond.instanceMethod ({ cls := "java/lang/AbstractStringBuilder", name := "charAt", desc := "(I)C" } : Jvm.MethodName)) ∈ lw_all := lw_g (lw_at lw_m3 146 rfl) rfl
theorem q698 : (Jvm.Cond.code ({ cls := "java/lang/AbstractStringBuilder", name := "charAt", desc := "(I)C" } : Jvm.MethodName) prog_10_method_14_code (5 : Nat) (Option.some Jvm.ClassFile.FieldType.char)) ∈ lw_all := lw_g (lw_at lw_m3 147 rfl) rfl
theorem q699 : (Jvm.Cond.methodLink "java/lang/AbstractStringBuilder" (138 : Nat) ({ cls := "java/lang/Math", name := "min", desc := "(II)I" } : Jvm.MethodName)) ∈ lw_all := lw_g (lw_at lw_m3 148 rfl) rfl
theorem q700 : (Jvm.Cond.methodLink "java/lang/AbstractStringBuilder" (144 : Nat) ({ cls := "java/lang/String", name := "checkIndex", desc := "(II)V" } : Jvm.MethodName)) ∈ lw_all := lw_g (lw_at lw_m3 149 rfl) rfl
theorem q706 : (Jvm.Cond.methodLink "java/lang/AbstractStringBuilder" (148 : Nat) ({ cls := "java/lang/StringUTF16", name := "getChar", desc := "([BI)C" } : Jvm.MethodName)) ∈ lw_all := lw_g (lw_at lw_m3 155 rfl) rfl
theorem q1073 : (Jvm.Cond.instanceMethod ({ cls := "java/lang/AbstractStringBuilder", name := "compareTo", desc := "(Ljava/lang/AbstractStringBuilder;)I" } : Jvm.MethodName)) ∈ lw_all := lw_g (lw_at lw_m5 42 rfl) rfl
theorem q1074 : (Jvm.Cond.code ({ cls := "java/lang/AbstractStringBuilder", name := "compareTo", desc := "(Ljava/lang/AbstractStringBuilder;)I" } : Jvm.MethodName) prog_10_method_5_code (6 : Nat) (Option.some Jvm.ClassFile.FieldType.int)) ∈ lw_all := lw_g (lw_at lw_m5 43 rfl) rfl
theorem q1075 : (Jvm.Cond.methodLink "java/lang/AbstractStringBuilder" (87 : Nat) ({ cls := "java/lang/StringLatin1", name := "compareTo", desc := "([B[BII)I" } : Jvm.MethodName)) ∈ lw_all := lw_g (lw_at lw_m5 44 rfl) rfl
theorem q1076 : (Jvm.Cond.methodLink "java/lang/AbstractStringBuilder" (93 : Nat) ({ cls := "java/lang/StringUTF16", name := "compareTo", desc := "([B[BII)I" } : Jvm.MethodName)) ∈ lw_all := lw_g (lw_at lw_m5 45 rfl) rfl
theorem q1085 : (Jvm.Cond.methodLink "java/lang/AbstractStringBuilder" (94 : Nat) ({ cls := "java/lang/StringLatin1", name := "compareToUTF16", desc := "([B[BII)I" } : Jvm.MethodName)) ∈ lw_all := lw_g (lw_at lw_m5 54 rfl) rfl
theorem q1089 : (Jvm.Cond.methodLink "java/lang/AbstractStringBuilder" (97 : Nat) ({ cls := "java/lang/StringUTF16", name := "compareToLatin1", desc := "([B[BII)I" } : Jvm.MethodName)) ∈ lw_all := lw_g (lw_at lw_m5 58 rfl) rfl
theorem q1660 : (Jvm.Cond.instanceMethod ({ cls := "java/lang/AbstractStringBuilder", name := "append", desc := "(C)Ljava/lang/AbstractStringBuilder;" } : Jvm.MethodName)) ∈ lw_all := lw_g (lw_at lw_m7 149 rfl) rfl
theorem q1661 : (Jvm.Cond.code ({ cls := "java/lang/AbstractStringBuilder", name := "append", desc := "(C)Ljava/lang/AbstractStringBuilder;" } : Jvm.MethodName) prog_10_method_31_code (2 : Nat) (Option.some (Jvm.ClassFile.FieldType.object "java/lang/AbstractStringBuilder"))) ∈ lw_all := lw_g (lw_at lw_m7 150 rfl) rfl
theorem q1662 : (Jvm.Cond.methodLink "java/lang/AbstractStringBuilder" (191 : Nat) ({ cls := "java/lang/StringLatin1", name := "canEncode", desc := "(C)Z" } : Jvm.MethodName)) ∈ lw_all := lw_g (lw_at lw_m7 151 rfl) rfl
theorem q1665 : (Jvm.Cond.methodLink "java/lang/AbstractStringBuilder" (197 : Nat) ({ cls := "java/lang/StringUTF16", name := "putCharSB", desc := "([BII)V" } : Jvm.MethodName)) ∈ lw_all := lw_g (lw_at lw_m7 154 rfl) rfl
theorem q2061 : (Jvm.Cond.sameMethod "java/lang/AbstractStringBuilder" "java/lang/AbstractStringBuilder" "length" "()I") ∈ lw_all := lw_g (lw_at lw_m9 70 rfl) rfl
theorem q2062 : (Jvm.Cond.sameMethod "java/lang/AbstractStringBuilder" "java/lang/AbstractStringBuilder" "setLength" "(I)V") ∈ lw_all := lw_g (lw_at lw_m9 71 rfl) rfl
theorem q2063 : (Jvm.Cond.sameMethod "java/lang/AbstractStringBuilder" "java/lang/AbstractStringBuilder" "append" "(Ljava/lang/String;)Ljava/lang/AbstractStringBuilder;") ∈ lw_all := lw_g (lw_at lw_m9 72 rfl) rfl
theorem q2064 : (Jvm.Cond.sameMethod "java/lang/AbstractStringBuilder" "java/lang/AbstractStringBuilder" "appendNull" "()Ljava/lang/AbstractStringBuilder;") ∈ lw_all := lw_g (lw_at lw_m9 73 rfl) rfl
theorem q2065 : (Jvm.Cond.sameMethod "java/lang/AbstractStringBuilder" "java/lang/AbstractStringBuilder" "ensureCapacityInternal" "(I)V") ∈ lw_all := lw_g (lw_at lw_m9 74 rfl) rfl
theorem q2066 : (Jvm.Cond.sameMethod "java/lang/AbstractStringBuilder" "java/lang/AbstractStringBuilder" "newCapacity" "(I)I") ∈ lw_all := lw_g (lw_at lw_m9 75 rfl) rfl
theorem q2067 : (Jvm.Cond.sameMethod "java/lang/AbstractStringBuilder" "java/lang/AbstractStringBuilder" "putStringAt" "(ILjava/lang/String;)V") ∈ lw_all := lw_g (lw_at lw_m9 76 rfl) rfl
theorem q2068 : (Jvm.Cond.sameMethod "java/lang/AbstractStringBuilder" "java/lang/AbstractStringBuilder" "inflateIfNeededFor" "(Ljava/lang/String;)V") ∈ lw_all := lw_g (lw_at lw_m9 77 rfl) rfl
theorem q2069 : (Jvm.Cond.sameMethod "java/lang/AbstractStringBuilder" "java/lang/AbstractStringBuilder" "inflate" "()V") ∈ lw_all := lw_g (lw_at lw_m9 78 rfl) rfl
theorem q2070 : (Jvm.Cond.sameMethod "java/lang/AbstractStringBuilder" "java/lang/AbstractStringBuilder" "append" "(I)Ljava/lang/AbstractStringBuilder;") ∈ lw_all := lw_g (lw_at lw_m9 79 rfl) rfl
theorem q2073 : (Jvm.Cond.sameMethod "java/lang/AbstractStringBuilder" "java/lang/AbstractStringBuilder" "charAt" "(I)C") ∈ lw_all := lw_g (lw_at lw_m9 82 rfl) rfl
theorem q2074 : (Jvm.Cond.sameMethod "java/lang/AbstractStringBuilder" "java/lang/AbstractStringBuilder" "compareTo" "(Ljava/lang/AbstractStringBuilder;)I") ∈ lw_all := lw_g (lw_at lw_m9 83 rfl) rfl
theorem q2075 : (Jvm.Cond.sameMethod "java/lang/AbstractStringBuilder" "java/lang/AbstractStringBuilder" "append" "(C)Ljava/lang/AbstractStringBuilder;") ∈ lw_all := lw_g (lw_at lw_m9 84 rfl) rfl

/-! java/lang/StringBuilder -/
set_option maxRecDepth 100000
def RJ6 : String := "java/lang/StringBuilder"
def TJ6 : u_T := fun k => match k with
  | 0 => ("java/lang/AbstractStringBuilder", "value", "[B", false)
  | 1 => ("java/lang/AbstractStringBuilder", "coder", "B", false)
  | 2 => ("java/lang/AbstractStringBuilder", "maybeLatin1", "Z", false)
  | _ => ("java/lang/AbstractStringBuilder", "count", "I", false)
def tyJ6 : Nat → FieldType := fun k => match k with
  | 0 => .array .byte
  | 1 => .byte
  | 2 => .boolean
  | _ => .int
abbrev wsJ60 : List Cond := u_ws RJ6 TJ6 4
theorem nmJ6 : ∀ a, a < 4 → ∀ b, b < 4 → a ≠ b → (TJ6 a).2.1 ≠ (TJ6 b).2.1 := by decide +kernel
theorem tyJ6_ok : ∀ k, k < 4 → parseFieldDescriptor (TJ6 k).2.2.1 = some (tyJ6 k) := by decide +kernel
abbrev cJ6_init : ByteArray := prog_28_method_2_code
def yJ6_init : MethodName := ⟨RJ6, "<init>", "(I)V"⟩
def dkwJ6_init_0 : List UInt8 := [42, 27, 183, 0, 1, 177]
abbrev dktJ6_init_0 : List UInt8 := dkwJ6_init_0 ++ []
theorem dksJ6_init_0 : cJ6_init.data.toList.drop 0 = dktJ6_init_0 := by decide +kernel
theorem dJ6_init_0 : decode cJ6_init 0 = .ok (.aload_n 0, 1) := dk_42 (dk_at dksJ6_init_0 0 rfl rfl)
theorem dJ6_init_1 : decode cJ6_init 1 = .ok (.iload_n 1, 1) := dk_27 (dk_at dksJ6_init_0 1 rfl rfl)
theorem dJ6_init_2 : decode cJ6_init 2 = .ok (.invokespecial 1, 3) := dk_183 0 1 (dk_at dksJ6_init_0 2 rfl rfl)
theorem dJ6_init_5 : decode cJ6_init 5 = .ok (.return_, 1) := dk_177 (dk_at dksJ6_init_0 5 rfl rfl)
abbrev cJ6_length : ByteArray := prog_28_method_93_code
def yJ6_length : MethodName := ⟨RJ6, "length", "()I"⟩
theorem dJ6_length_0 : decode cJ6_length 0 = .ok (.aload_n 0, 1) := by decide +kernel
theorem dJ6_length_1 : decode cJ6_length 1 = .ok (.invokespecial 343, 3) := by decide +kernel
theorem dJ6_length_4 : decode cJ6_length 4 = .ok (.ireturn, 1) := by decide +kernel
abbrev cJ6_setLength : ByteArray := prog_28_method_89_code
def yJ6_setLength : MethodName := ⟨RJ6, "setLength", "(I)V"⟩
def dkwJ6_setLength_0 : List UInt8 := [42, 27, 183, 1, 77, 177]
abbrev dktJ6_setLength_0 : List UInt8 := dkwJ6_setLength_0 ++ []
theorem dksJ6_setLength_0 : cJ6_setLength.data.toList.drop 0 = dktJ6_setLength_0 := by decide +kernel
theorem dJ6_setLength_0 : decode cJ6_setLength 0 = .ok (.aload_n 0, 1) := dk_42 (dk_at dksJ6_setLength_0 0 rfl rfl)
theorem dJ6_setLength_1 : decode cJ6_setLength 1 = .ok (.iload_n 1, 1) := dk_27 (dk_at dksJ6_setLength_0 1 rfl rfl)
theorem dJ6_setLength_2 : decode cJ6_setLength 2 = .ok (.invokespecial 333, 3) := dk_183 1 77 (dk_at dksJ6_setLength_0 2 rfl rfl)
theorem dJ6_setLength_5 : decode cJ6_setLength 5 = .ok (.return_, 1) := dk_177 (dk_at dksJ6_setLength_0 5 rfl rfl)
abbrev cJ6_charAt : ByteArray := prog_28_method_88_code
def yJ6_charAt : MethodName := ⟨RJ6, "charAt", "(I)C"⟩
def dkwJ6_charAt_0 : List UInt8 := [42, 27, 183, 1, 73, 172]
abbrev dktJ6_charAt_0 : List UInt8 := dkwJ6_charAt_0 ++ []
theorem dksJ6_charAt_0 : cJ6_charAt.data.toList.drop 0 = dktJ6_charAt_0 := by decide +kernel
theorem dJ6_charAt_0 : decode cJ6_charAt 0 = .ok (.aload_n 0, 1) := dk_42 (dk_at dksJ6_charAt_0 0 rfl rfl)
theorem dJ6_charAt_1 : decode cJ6_charAt 1 = .ok (.iload_n 1, 1) := dk_27 (dk_at dksJ6_charAt_0 1 rfl rfl)
theorem dJ6_charAt_2 : decode cJ6_charAt 2 = .ok (.invokespecial 329, 3) := dk_183 1 73 (dk_at dksJ6_charAt_0 2 rfl rfl)
theorem dJ6_charAt_5 : decode cJ6_charAt 5 = .ok (.ireturn, 1) := dk_172 (dk_at dksJ6_charAt_0 5 rfl rfl)
abbrev cJ6_append_3 : ByteArray := prog_28_method_14_code
def yJ6_append_3 : MethodName := ⟨RJ6, "append", "(C)Ljava/lang/StringBuilder;"⟩
def dkwJ6_append_3_0 : List UInt8 := [42, 27, 183, 0, 50, 87, 42, 176]
abbrev dktJ6_append_3_0 : List UInt8 := dkwJ6_append_3_0 ++ []
theorem dksJ6_append_3_0 : cJ6_append_3.data.toList.drop 0 = dktJ6_append_3_0 := by decide +kernel
theorem dJ6_append_3_0 : decode cJ6_append_3 0 = .ok (.aload_n 0, 1) := dk_42 (dk_at dksJ6_append_3_0 0 rfl rfl)
theorem dJ6_append_3_1 : decode cJ6_append_3 1 = .ok (.iload_n 1, 1) := dk_27 (dk_at dksJ6_append_3_0 1 rfl rfl)
theorem dJ6_append_3_2 : decode cJ6_append_3 2 = .ok (.invokespecial 50, 3) := dk_183 0 50 (dk_at dksJ6_append_3_0 2 rfl rfl)
theorem dJ6_append_3_5 : decode cJ6_append_3 5 = .ok (.pop, 1) := dk_87 (dk_at dksJ6_append_3_0 5 rfl rfl)
theorem dJ6_append_3_6 : decode cJ6_append_3 6 = .ok (.aload_n 0, 1) := dk_42 (dk_at dksJ6_append_3_0 6 rfl rfl)
theorem dJ6_append_3_7 : decode cJ6_append_3 7 = .ok (.areturn, 1) := dk_176 (dk_at dksJ6_append_3_0 7 rfl rfl)
theorem q80 : (Jvm.Cond.initialized "java/lang/StringBuilder") ∈ lw_all := lw_g (lw_at lw_m1 9 rfl) rfl
theorem q235 : (Jvm.Cond.instantiable "java/lang/StringBuilder" (4 : Nat)) ∈ lw_all := lw_g (lw_at lw_m1 164 rfl) rfl
theorem q237 : (Jvm.Cond.instanceMethod ({ cls := "java/lang/StringBuilder", name := "<init>", desc := "(I)V" } : Jvm.MethodName)) ∈ lw_all := lw_g (lw_at lw_m1 166 rfl) rfl
theorem q238 : (Jvm.Cond.code ({ cls := "java/lang/StringBuilder", name := "<init>", desc := "(I)V" } : Jvm.MethodName) prog_28_method_2_code (2 : Nat) (Option.none : Option Jvm.ClassFile.FieldType)) ∈ lw_all := lw_g (lw_at lw_m1 167 rfl) rfl
theorem q239 : (Jvm.Cond.methodLink "java/lang/StringBuilder" (1 : Nat) ({ cls := "java/lang/AbstractStringBuilder", name := "<init>", desc := "(I)V" } : Jvm.MethodName)) ∈ lw_all := lw_g (lw_at lw_m1 168 rfl) rfl
theorem q257 : (Jvm.Cond.lays "java/lang/StringBuilder" "java/lang/AbstractStringBuilder" "value" "[B") ∈ lw_all := lw_g (lw_at lw_m1 186 rfl) rfl
theorem q259 : (Jvm.Cond.lays "java/lang/StringBuilder" "java/lang/AbstractStringBuilder" "coder" "B") ∈ lw_all := lw_g (lw_at lw_m1 188 rfl) rfl
theorem q261 : (Jvm.Cond.lays "java/lang/StringBuilder" "java/lang/AbstractStringBuilder" "maybeLatin1" "Z") ∈ lw_all := lw_g (lw_at lw_m1 190 rfl) rfl
theorem q263 : (Jvm.Cond.lays "java/lang/StringBuilder" "java/lang/AbstractStringBuilder" "count" "I") ∈ lw_all := lw_g (lw_at lw_m1 192 rfl) rfl
theorem q265 : (Jvm.Cond.superclass "java/lang/StringBuilder" "java/lang/AbstractStringBuilder") ∈ lw_all := lw_g (lw_at lw_m1 194 rfl) rfl
theorem q289 : (Jvm.Cond.instanceMethod ({ cls := "java/lang/StringBuilder", name := "length", desc := "()I" } : Jvm.MethodName)) ∈ lw_all := lw_g (lw_at lw_m1 218 rfl) rfl
theorem q290 : (Jvm.Cond.selects "java/lang/StringBuilder" ({ cls := "java/lang/StringBuilder", name := "length", desc := "()I" } : Jvm.MethodName) ({ cls := "java/lang/StringBuilder", name := "length", desc := "()I" } : Jvm.MethodName)) ∈ lw_all := lw_g (lw_at lw_m1 219 rfl) rfl
theorem q291 : (Jvm.Cond.code ({ cls := "java/lang/StringBuilder", name := "length", desc := "()I" } : Jvm.MethodName) prog_28_method_93_code (1 : Nat) (Option.some Jvm.ClassFile.FieldType.int)) ∈ lw_all := lw_g (lw_at lw_m1 220 rfl) rfl
theorem q292 : (Jvm.Cond.methodLink "java/lang/StringBuilder" (343 : Nat) ({ cls := "java/lang/AbstractStringBuilder", name := "length", desc := "()I" } : Jvm.MethodName)) ∈ lw_all := lw_g (lw_at lw_m1 221 rfl) rfl
theorem q296 : (Jvm.Cond.instanceMethod ({ cls := "java/lang/StringBuilder", name := "setLength", desc := "(I)V" } : Jvm.MethodName)) ∈ lw_all := lw_g (lw_at lw_m1 225 rfl) rfl
theorem q297 : (Jvm.Cond.selects "java/lang/StringBuilder" ({ cls := "java/lang/StringBuilder", name := "setLength", desc := "(I)V" } : Jvm.MethodName) ({ cls := "java/lang/StringBuilder", name := "setLength", desc := "(I)V" } : Jvm.MethodName)) ∈ lw_all := lw_g (lw_at lw_m1 226 rfl) rfl
theorem q298 : (Jvm.Cond.code ({ cls := "java/lang/StringBuilder", name := "setLength", desc := "(I)V" } : Jvm.MethodName) prog_28_method_89_code (2 : Nat) (Option.none : Option Jvm.ClassFile.FieldType)) ∈ lw_all := lw_g (lw_at lw_m1 227 rfl) rfl
theorem q299 : (Jvm.Cond.methodLink "java/lang/StringBuilder" (333 : Nat) ({ cls := "java/lang/AbstractStringBuilder", name := "setLength", desc := "(I)V" } : Jvm.MethodName)) ∈ lw_all := lw_g (lw_at lw_m1 228 rfl) rfl
theorem q309 : (Jvm.Cond.instanceMethod ({ cls := "java/lang/StringBuilder", name := "<init>", desc := "()V" } : Jvm.MethodName)) ∈ lw_all := lw_g (lw_at lw_m1 238 rfl) rfl
theorem q310 : (Jvm.Cond.code ({ cls := "java/lang/StringBuilder", name := "<init>", desc := "()V" } : Jvm.MethodName) prog_28_method_1_code (1 : Nat) (Option.none : Option Jvm.ClassFile.FieldType)) ∈ lw_all := lw_g (lw_at lw_m1 239 rfl) rfl
theorem q313 : (Jvm.Cond.instanceMethod ({ cls := "java/lang/StringBuilder", name := "append", desc := "(Ljava/lang/String;)Ljava/lang/StringBuilder;" } : Jvm.MethodName)) ∈ lw_all := lw_g (lw_at lw_m2 2 rfl) rfl
theorem q314 : (Jvm.Cond.selects "java/lang/StringBuilder" ({ cls := "java/lang/StringBuilder", name := "append", desc := "(Ljava/lang/String;)Ljava/lang/StringBuilder;" } : Jvm.MethodName) ({ cls := "java/lang/StringBuilder", name := "append", desc := "(Ljava/lang/String;)Ljava/lang/StringBuilder;" } : Jvm.MethodName)) ∈ lw_all := lw_g (lw_at lw_m2 3 rfl) rfl
theorem q315 : (Jvm.Cond.code ({ cls := "java/lang/StringBuilder", name := "append", desc := "(Ljava/lang/String;)Ljava/lang/StringBuilder;" } : Jvm.MethodName) prog_28_method_7_code (2 : Nat) (Option.some (Jvm.ClassFile.FieldType.object "java/lang/StringBuilder"))) ∈ lw_all := lw_g (lw_at lw_m2 4 rfl) rfl
theorem q316 : (Jvm.Cond.methodLink "java/lang/StringBuilder" (29 : Nat) ({ cls := "java/lang/AbstractStringBuilder", name := "append", desc := "(Ljava/lang/String;)Ljava/lang/AbstractStringBuilder;" } : Jvm.MethodName)) ∈ lw_all := lw_g (lw_at lw_m2 5 rfl) rfl
theorem q361 : (Jvm.Cond.selects "java/lang/StringBuilder" ({ cls := "java/lang/AbstractStringBuilder", name := "isLatin1", desc := "()Z" } : Jvm.MethodName) ({ cls := "java/lang/AbstractStringBuilder", name := "isLatin1", desc := "()Z" } : Jvm.MethodName)) ∈ lw_all := lw_g (lw_at lw_m2 50 rfl) rfl
theorem q433 : (Jvm.Cond.instanceMethod ({ cls := "java/lang/StringBuilder", name := "append", desc := "(I)Ljava/lang/StringBuilder;" } : Jvm.MethodName)) ∈ lw_all := lw_g (lw_at lw_m2 122 rfl) rfl
theorem q434 : (Jvm.Cond.selects "java/lang/StringBuilder" ({ cls := "java/lang/StringBuilder", name := "append", desc := "(I)Ljava/lang/StringBuilder;" } : Jvm.MethodName) ({ cls := "java/lang/StringBuilder", name := "append", desc := "(I)Ljava/lang/StringBuilder;" } : Jvm.MethodName)) ∈ lw_all := lw_g (lw_at lw_m2 123 rfl) rfl
theorem q435 : (Jvm.Cond.code ({ cls := "java/lang/StringBuilder", name := "append", desc := "(I)Ljava/lang/StringBuilder;" } : Jvm.MethodName) prog_28_method_15_code (2 : Nat) (Option.some (Jvm.ClassFile.FieldType.object "java/lang/StringBuilder"))) ∈ lw_all := lw_g (lw_at lw_m2 124 rfl) rfl
theorem q436 : (Jvm.Cond.methodLink "java/lang/StringBuilder" (53 : Nat) ({ cls := "java/lang/AbstractStringBuilder", name := "append", desc := "(I)Ljava/lang/AbstractStringBuilder;" } : Jvm.MethodName)) ∈ lw_all := lw_g (lw_at lw_m2 125 rfl) rfl
theorem q458 : (Jvm.Cond.instanceMethod ({ cls := "java/lang/StringBuilder", name := "toString", desc := "()Ljava/lang/String;" } : Jvm.MethodName)) ∈ lw_all := lw_g (lw_at lw_m2 147 rfl) rfl
theorem q459 : (Jvm.Cond.selects "java/lang/StringBuilder" ({ cls := "java/lang/StringBuilder", name := "toString", desc := "()Ljava/lang/String;" } : Jvm.MethodName) ({ cls := "java/lang/StringBuilder", name := "toString", desc := "()Ljava/lang/String;" } : Jvm.MethodName)) ∈ lw_all := lw_g (lw_at lw_m2 148 rfl) rfl
theorem q460 : (Jvm.Cond.code ({ cls := "java/lang/StringBuilder", name := "toString", desc := "()Ljava/lang/String;" } : Jvm.MethodName) prog_28_method_42_code (1 : Nat) (Option.some (Jvm.ClassFile.FieldType.object "java/lang/String"))) ∈ lw_all := lw_g (lw_at lw_m2 149 rfl) rfl
theorem q461 : (Jvm.Cond.classLink "java/lang/StringBuilder" (18 : Nat) "java/lang/String") ∈ lw_all := lw_g (lw_at lw_m2 150 rfl) rfl
theorem q463 : (Jvm.Cond.methodLink "java/lang/StringBuilder" (137 : Nat) ({ cls := "java/lang/String", name := "<init>", desc := "(Ljava/lang/StringBuilder;)V" } : Jvm.MethodName)) ∈ lw_all := lw_g (lw_at lw_m2 152 rfl) rfl
theorem q473 : (Jvm.Cond.selects "java/lang/StringBuilder" ({ cls := "java/lang/AbstractStringBuilder", name := "getValue", desc := "()[B" } : Jvm.MethodName) ({ cls := "java/lang/AbstractStringBuilder", name := "getValue", desc := "()[B" } : Jvm.MethodName)) ∈ lw_all := lw_g (lw_at lw_m2 162 rfl) rfl
theorem q693 : (Jvm.Cond.instanceMethod ({ cls := "java/lang/StringBuilder", name := "charAt", desc := "(I)C" } : Jvm.MethodName)) ∈ lw_all := lw_g (lw_at lw_m3 142 rfl) rfl
theorem q694 : (Jvm.Cond.selects "java/lang/StringBuilder" ({ cls := "java/lang/StringBuilder", name := "charAt", desc := "(I)C" } : Jvm.MethodName) ({ cls := "java/lang/StringBuilder", name := "charAt", desc := "(I)C" } : Jvm.MethodName)) ∈ lw_all := lw_g (lw_at lw_m3 143 rfl) rfl
theorem q695 : (Jvm.Cond.code ({ cls := "java/lang/StringBuilder", name := "charAt", desc := "(I)C" } : Jvm.MethodName) prog_28_method_88_code (2 : Nat) (Option.some Jvm.ClassFile.FieldType.char)) ∈ lw_all := lw_g (lw_at lw_m3 144 rfl) rfl
theorem q696 : (Jvm.Cond.methodLink "java/lang/StringBuilder" (329 : Nat) ({ cls := "java/lang/AbstractStringBuilder", name := "charAt", desc := "(I)C" } : Jvm.MethodName)) ∈ lw_all := lw_g (lw_at lw_m3 145 rfl) rfl
theorem q830 : (Jvm.Cond.selects "java/lang/StringBuilder" ({ cls := "java/lang/Object", name := "hashCode", desc := "()I" } : Jvm.MethodName) ({ cls := "java/lang/Object", name := "hashCode", desc := "()I" } : Jvm.MethodName)) ∈ lw_all := lw_g (lw_at lw_m4 39 rfl) rfl
theorem q860 : (Jvm.Cond.selects "java/lang/StringBuilder" ({ cls := "java/lang/Object", name := "equals", desc := "(Ljava/lang/Object;)Z" } : Jvm.MethodName) ({ cls := "java/lang/Object", name := "equals", desc := "(Ljava/lang/Object;)Z" } : Jvm.MethodName)) ∈ lw_all := lw_g (lw_at lw_m4 69 rfl) rfl
theorem q898 : (Jvm.Cond.selects "java/lang/StringBuilder" ({ cls := "java/lang/Object", name := "getClass", desc := "()Ljava/lang/Class;" } : Jvm.MethodName) ({ cls := "java/lang/Object", name := "getClass", desc := "()Ljava/lang/Class;" } : Jvm.MethodName)) ∈ lw_all := lw_g (lw_at lw_m4 107 rfl) rfl
theorem q1061 : (Jvm.Cond.castable "java/lang/StringBuilder" "java/lang/Comparable") ∈ lw_tbl := lw_at lw_m5 30 rfl
theorem q1062 : (Jvm.Cond.selects "java/lang/StringBuilder" ({ cls := "java/lang/Comparable", name := "compareTo", desc := "(Ljava/lang/Object;)I" } : Jvm.MethodName) ({ cls := "java/lang/StringBuilder", name := "compareTo", desc := "(Ljava/lang/Object;)I" } : Jvm.MethodName)) ∈ lw_all := lw_g (lw_at lw_m5 31 rfl) rfl
theorem q1063 : (Jvm.Cond.unhidden "java/lang/StringBuilder" "compareTo" "(Ljava/lang/Object;)I") ∈ lw_tbl := lw_at lw_m5 32 rfl
theorem q1064 : (Jvm.Cond.instanceMethod ({ cls := "java/lang/StringBuilder", name := "compareTo", desc := "(Ljava/lang/Object;)I" } : Jvm.MethodName)) ∈ lw_all := lw_g (lw_at lw_m5 33 rfl) rfl
theorem q1065 : (Jvm.Cond.publicMethod ({ cls := "java/lang/StringBuilder", name := "compareTo", desc := "(Ljava/lang/Object;)I" } : Jvm.MethodName)) ∈ lw_tbl := lw_at lw_m5 34 rfl
theorem q1066 : (Jvm.Cond.code ({ cls := "java/lang/StringBuilder", name := "compareTo", desc := "(Ljava/lang/Object;)I" } : Jvm.MethodName) prog_28_method_97_code (2 : Nat) (Option.some Jvm.ClassFile.FieldType.int)) ∈ lw_all := lw_g (lw_at lw_m5 35 rfl) rfl
theorem q1067 : (Jvm.Cond.classLink "java/lang/StringBuilder" (24 : Nat) "java/lang/StringBuilder") ∈ lw_all := lw_g (lw_at lw_m5 36 rfl) rfl
theorem q1068 : (Jvm.Cond.methodLink "java/lang/StringBuilder" (346 : Nat) ({ cls := "java/lang/StringBuilder", name := "compareTo", desc := "(Ljava/lang/StringBuilder;)I" } : Jvm.MethodName)) ∈ lw_all := lw_g (lw_at lw_m5 37 rfl) rfl
theorem q1069 : (Jvm.Cond.instanceMethod ({ cls := "java/lang/StringBuilder", name := "compareTo", desc := "(Ljava/lang/StringBuilder;)I" } : Jvm.MethodName)) ∈ lw_all := lw_g (lw_at lw_m5 38 rfl) rfl
theorem q1070 : (Jvm.Cond.selects "java/lang/StringBuilder" ({ cls := "java/lang/StringBuilder", name := "compareTo", desc := "(Ljava/lang/StringBuilder;)I" } : Jvm.MethodName) ({ cls := "java/lang/StringBuilder", name := "compareTo", desc := "(Ljava/lang/StringBuilder;)I" } : Jvm.MethodName)) ∈ lw_all := lw_g (lw_at lw_m5 39 rfl) rfl
theorem q1071 : (Jvm.Cond.code ({ cls := "java/lang/StringBuilder", name := "compareTo", desc := "(Ljava/lang/StringBuilder;)I" } : Jvm.MethodName) prog_28_method_5_code (2 : Nat) (Option.some Jvm.ClassFile.FieldType.int)) ∈ lw_all := lw_g (lw_at lw_m5 40 rfl) rfl
theorem q1072 : (Jvm.Cond.methodLink "java/lang/StringBuilder" (13 : Nat) ({ cls := "java/lang/AbstractStringBuilder", name := "compareTo", desc := "(Ljava/lang/AbstractStringBuilder;)I" } : Jvm.MethodName)) ∈ lw_all := lw_g (lw_at lw_m5 41 rfl) rfl
theorem q1656 : (Jvm.Cond.instanceMethod ({ cls := "java/lang/StringBuilder", name := "append", desc := "(C)Ljava/lang/StringBuilder;" } : Jvm.MethodName)) ∈ lw_all := lw_g (lw_at lw_m7 145 rfl) rfl
theorem q1657 : (Jvm.Cond.selects "java/lang/StringBuilder" ({ cls := "java/lang/StringBuilder", name := "append", desc := "(C)Ljava/lang/StringBuilder;" } : Jvm.MethodName) ({ cls := "java/lang/StringBuilder", name := "append", desc := "(C)Ljava/lang/StringBuilder;" } : Jvm.MethodName)) ∈ lw_all := lw_g (lw_at lw_m7 146 rfl) rfl
theorem q1658 : (Jvm.Cond.code ({ cls := "java/lang/StringBuilder", name := "append", desc := "(C)Ljava/lang/StringBuilder;" } : Jvm.MethodName) prog_28_method_14_code (2 : Nat) (Option.some (Jvm.ClassFile.FieldType.object "java/lang/StringBuilder"))) ∈ lw_all := lw_g (lw_at lw_m7 147 rfl) rfl
theorem q1659 : (Jvm.Cond.methodLink "java/lang/StringBuilder" (50 : Nat) ({ cls := "java/lang/AbstractStringBuilder", name := "append", desc := "(C)Ljava/lang/AbstractStringBuilder;" } : Jvm.MethodName)) ∈ lw_all := lw_g (lw_at lw_m7 148 rfl) rfl
theorem q2071 : (Jvm.Cond.selects "java/lang/StringBuilder" ({ cls := "java/lang/AbstractStringBuilder", name := "length", desc := "()I" } : Jvm.MethodName) ({ cls := "java/lang/StringBuilder", name := "length", desc := "()I" } : Jvm.MethodName)) ∈ lw_all := lw_g (lw_at lw_m9 80 rfl) rfl
theorem q2085 : (Jvm.Cond.castable "java/lang/StringBuilder" "java/lang/Object") ∈ lw_tbl := lw_at lw_m9 94 rfl
theorem in_J6 : ∀ w ∈ wsJ60, w ∈ lw_all := lw_in wsJ60 [257, 259, 261, 263] (by decide +kernel) (by decide +kernel)

/-! java/lang/String -/
set_option maxRecDepth 100000
def RJ7 : String := "java/lang/String"
def TJ7 : u_T := fun k => match k with
  | 0 => ("java/lang/String", "value", "[B", true)
  | 1 => ("java/lang/String", "coder", "B", true)
  | 2 => ("java/lang/String", "hash", "I", false)
  | _ => ("java/lang/String", "hashIsZero", "Z", false)
def tyJ7 : Nat → FieldType := fun k => match k with
  | 0 => .array .byte
  | 1 => .byte
  | 2 => .int
  | _ => .boolean
abbrev wsJ70 : List Cond := u_ws RJ7 TJ7 4
theorem nmJ7 : ∀ a, a < 4 → ∀ b, b < 4 → a ≠ b → (TJ7 a).2.1 ≠ (TJ7 b).2.1 := by decide +kernel
theorem tyJ7_ok : ∀ k, k < 4 → parseFieldDescriptor (TJ7 k).2.2.1 = some (tyJ7 k) := by decide +kernel
abbrev cJ7_checkIndex : ByteArray := prog_27_method_155_code
def yJ7_checkIndex : MethodName := ⟨RJ7, "checkIndex", "(II)V"⟩
def dkwJ7_checkIndex_0 : List UInt8 := [26, 27, 178, 4, 29, 184, 4, 35, 87, 177]
abbrev dktJ7_checkIndex_0 : List UInt8 := dkwJ7_checkIndex_0 ++ []
theorem dksJ7_checkIndex_0 : cJ7_checkIndex.data.toList.drop 0 = dktJ7_checkIndex_0 := by decide +kernel
theorem dJ7_checkIndex_0 : decode cJ7_checkIndex 0 = .ok (.iload_n 0, 1) := dk_26 (dk_at dksJ7_checkIndex_0 0 rfl rfl)
theorem dJ7_checkIndex_1 : decode cJ7_checkIndex 1 = .ok (.iload_n 1, 1) := dk_27 (dk_at dksJ7_checkIndex_0 1 rfl rfl)
theorem dJ7_checkIndex_2 : decode cJ7_checkIndex 2 = .ok (.getstatic 1053, 3) := dk_178 4 29 (dk_at dksJ7_checkIndex_0 2 rfl rfl)
theorem dJ7_checkIndex_5 : decode cJ7_checkIndex 5 = .ok (.invokestatic 1059, 3) := dk_184 4 35 (dk_at dksJ7_checkIndex_0 5 rfl rfl)
theorem dJ7_checkIndex_8 : decode cJ7_checkIndex 8 = .ok (.pop, 1) := dk_87 (dk_at dksJ7_checkIndex_0 8 rfl rfl)
theorem dJ7_checkIndex_9 : decode cJ7_checkIndex 9 = .ok (.return_, 1) := dk_177 (dk_at dksJ7_checkIndex_0 9 rfl rfl)
theorem q81 : (Jvm.Cond.initialized "java/lang/String") ∈ lw_all := lw_g (lw_at lw_m1 10 rfl) rfl
theorem q244 : (Jvm.Cond.laysStatic "java/lang/String" "COMPACT_STRINGS" "Z") ∈ lw_tbl := lw_at lw_m1 173 rfl
theorem q255 : (Jvm.Cond.fieldLink "java/lang/String" (1048 : Nat) "java/lang/AbstractStringBuilder" "maybeLatin1" "Z") ∈ lw_all := lw_g (lw_at lw_m1 184 rfl) rfl
theorem q373 : (Jvm.Cond.static ({ cls := "java/lang/String", name := "checkBoundsBeginEnd", desc := "(III)V" } : Jvm.MethodName)) ∈ lw_all := lw_g (lw_at lw_m2 62 rfl) rfl
theorem q374 : (Jvm.Cond.code ({ cls := "java/lang/String", name := "checkBoundsBeginEnd", desc := "(III)V" } : Jvm.MethodName) prog_27_method_158_code (3 : Nat) (Option.none : Option Jvm.ClassFile.FieldType)) ∈ lw_all := lw_g (lw_at lw_m2 63 rfl) rfl
theorem q375 : (Jvm.Cond.fieldLink "java/lang/String" (1053 : Nat) "jdk/internal/util/Preconditions" "SIOOBE_FORMATTER" "Ljava/util/function/BiFunction;") ∈ lw_all := lw_g (lw_at lw_m2 64 rfl) rfl
theorem q377 : (Jvm.Cond.methodLink "java/lang/String" (1062 : Nat) ({ cls := "jdk/internal/util/Preconditions", name := "checkFromToIndex", desc := "(IIILjava/util/function/BiFunction;)I" } : Jvm.MethodName)) ∈ lw_all := lw_g (lw_at lw_m2 66 rfl) rfl
theorem q390 : (Jvm.Cond.instanceMethod ({ cls := "java/lang/String", name := "length", desc := "()I" } : Jvm.MethodName)) ∈ lw_all := lw_g (lw_at lw_m2 79 rfl) rfl
theorem q391 : (Jvm.Cond.selects "java/lang/String" ({ cls := "java/lang/String", name := "length", desc := "()I" } : Jvm.MethodName) ({ cls := "java/lang/String", name := "length", desc := "()I" } : Jvm.MethodName)) ∈ lw_all := lw_g (lw_at lw_m2 80 rfl) rfl
theorem q392 : (Jvm.Cond.code ({ cls := "java/lang/String", name := "length", desc := "()I" } : Jvm.MethodName) prog_27_method_54_code (1 : Nat) (Option.some Jvm.ClassFile.FieldType.int)) ∈ lw_all := lw_g (lw_at lw_m2 81 rfl) rfl
theorem q393 : (Jvm.Cond.methodLink "java/lang/String" (335 : Nat) ({ cls := "java/lang/String", name := "coder", desc := "()B" } : Jvm.MethodName)) ∈ lw_all := lw_g (lw_at lw_m2 82 rfl) rfl
theorem q394 : (Jvm.Cond.instanceMethod ({ cls := "java/lang/String", name := "coder", desc := "()B" } : Jvm.MethodName)) ∈ lw_all := lw_g (lw_at lw_m2 83 rfl) rfl
theorem q395 : (Jvm.Cond.selects "java/lang/String" ({ cls := "java/lang/String", name := "coder", desc := "()B" } : Jvm.MethodName) ({ cls := "java/lang/String", name := "coder", desc := "()B" } : Jvm.MethodName)) ∈ lw_all := lw_g (lw_at lw_m2 84 rfl) rfl
theorem q396 : (Jvm.Cond.code ({ cls := "java/lang/String", name := "coder", desc := "()B" } : Jvm.MethodName) prog_27_method_152_code (1 : Nat) (Option.some Jvm.ClassFile.FieldType.byte)) ∈ lw_all := lw_g (lw_at lw_m2 85 rfl) rfl
theorem q397 : (Jvm.Cond.fieldLink "java/lang/String" (38 : Nat) "java/lang/String" "COMPACT_STRINGS" "Z") ∈ lw_all := lw_g (lw_at lw_m2 86 rfl) rfl
theorem q421 : (Jvm.Cond.static ({ cls := "java/lang/String", name := "checkBoundsOffCount", desc := "(III)I" } : Jvm.MethodName)) ∈ lw_all := lw_g (lw_at lw_m2 110 rfl) rfl
theorem q422 : (Jvm.Cond.code ({ cls := "java/lang/String", name := "checkBoundsOffCount", desc := "(III)I" } : Jvm.MethodName) prog_27_method_157_code (3 : Nat) (Option.some Jvm.ClassFile.FieldType.int)) ∈ lw_all := lw_g (lw_at lw_m2 111 rfl) rfl
theorem q423 : (Jvm.Cond.methodLink "java/lang/String" (1065 : Nat) ({ cls := "jdk/internal/util/Preconditions", name := "checkFromIndexSize", desc := "(IIILjava/util/function/BiFunction;)I" } : Jvm.MethodName)) ∈ lw_all := lw_g (lw_at lw_m2 112 rfl) rfl
theorem q427 : (Jvm.Cond.instanceMethod ({ cls := "java/lang/String", name := "getBytes", desc := "([BIB)V" } : Jvm.MethodName)) ∈ lw_all := lw_g (lw_at lw_m2 116 rfl) rfl
theorem q428 : (Jvm.Cond.selects "java/lang/String" ({ cls := "java/lang/String", name := "getBytes", desc := "([BIB)V" } : Jvm.MethodName) ({ cls := "java/lang/String", name := "getBytes", desc := "([BIB)V" } : Jvm.MethodName)) ∈ lw_all := lw_g (lw_at lw_m2 117 rfl) rfl
theorem q429 : (Jvm.Cond.code ({ cls := "java/lang/String", name := "getBytes", desc := "([BIB)V" } : Jvm.MethodName) prog_27_method_147_code (4 : Nat) (Option.none : Option Jvm.ClassFile.FieldType)) ∈ lw_all := lw_g (lw_at lw_m2 118 rfl) rfl
theorem q430 : (Jvm.Cond.methodLink "java/lang/String" (212 : Nat) ({ cls := "java/lang/System", name := "arraycopy", desc := "(Ljava/lang/Object;ILjava/lang/Object;II)V" } : Jvm.MethodName)) ∈ lw_all := lw_g (lw_at lw_m2 119 rfl) rfl
theorem q431 : (Jvm.Cond.methodLink "java/lang/String" (106 : Nat) ({ cls := "java/lang/StringLatin1", name := "inflate", desc := "([BI[BII)V" } : Jvm.MethodName)) ∈ lw_all := lw_g (lw_at lw_m2 120 rfl) rfl
theorem q462 : (Jvm.Cond.instantiable "java/lang/String" (4 : Nat)) ∈ lw_all := lw_g (lw_at lw_m2 151 rfl) rfl
theorem q464 : (Jvm.Cond.instanceMethod ({ cls := "java/lang/String", name := "<init>", desc := "(Ljava/lang/StringBuilder;)V" } : Jvm.MethodName)) ∈ lw_all := lw_g (lw_at lw_m2 153 rfl) rfl
theorem q465 : (Jvm.Cond.code ({ cls := "java/lang/String", name := "<init>", desc := "(Ljava/lang/StringBuilder;)V" } : Jvm.MethodName) prog_27_method_53_code (2 : Nat) (Option.none : Option Jvm.ClassFile.FieldType)) ∈ lw_all := lw_g (lw_at lw_m2 154 rfl) rfl
theorem q466 : (Jvm.Cond.methodLink "java/lang/String" (489 : Nat) ({ cls := "java/lang/String", name := "<init>", desc := "(Ljava/lang/AbstractStringBuilder;Ljava/lang/Void;)V" } : Jvm.MethodName)) ∈ lw_all := lw_g (lw_at lw_m2 155 rfl) rfl
theorem q467 : (Jvm.Cond.instanceMethod ({ cls := "java/lang/String", name := "<init>", desc := "(Ljava/lang/AbstractStringBuilder;Ljava/lang/Void;)V" } : Jvm.MethodName)) ∈ lw_all := lw_g (lw_at lw_m2 156 rfl) rfl
theorem q468 : (Jvm.Cond.code ({ cls := "java/lang/String", name := "<init>", desc := "(Ljava/lang/AbstractStringBuilder;Ljava/lang/Void;)V" } : Jvm.MethodName) prog_27_method_150_code (5 : Nat) (Option.none : Option Jvm.ClassFile.FieldType)) ∈ lw_all := lw_g (lw_at lw_m2 157 rfl) rfl
theorem q469 : (Jvm.Cond.methodLink "java/lang/String" (1 : Nat) ({ cls := "java/lang/Object", name := "<init>", desc := "()V" } : Jvm.MethodName)) ∈ lw_all := lw_g (lw_at lw_m2 158 rfl) rfl
theorem q470 : (Jvm.Cond.methodLink "java/lang/String" (552 : Nat) ({ cls := "java/lang/AbstractStringBuilder", name := "getValue", desc := "()[B" } : Jvm.MethodName)) ∈ lw_all := lw_g (lw_at lw_m2 159 rfl) rfl
theorem q475 : (Jvm.Cond.methodLink "java/lang/String" (549 : Nat) ({ cls := "java/lang/AbstractStringBuilder", name := "length", desc := "()I" } : Jvm.MethodName)) ∈ lw_all := lw_g (lw_at lw_m2 164 rfl) rfl
theorem q476 : (Jvm.Cond.methodLink "java/lang/String" (1047 : Nat) ({ cls := "java/lang/AbstractStringBuilder", name := "isLatin1", desc := "()Z" } : Jvm.MethodName)) ∈ lw_all := lw_g (lw_at lw_m2 165 rfl) rfl
theorem q477 : (Jvm.Cond.methodLink "java/lang/String" (54 : Nat) ({ cls := "java/util/Arrays", name := "copyOfRange", desc := "([BII)[B" } : Jvm.MethodName)) ∈ lw_all := lw_g (lw_at lw_m2 166 rfl) rfl
theorem q560 : (Jvm.Cond.methodLink "java/lang/String" (1051 : Nat) ({ cls := "java/lang/StringUTF16", name := "compress", desc := "([BII)[B" } : Jvm.MethodName)) ∈ lw_all := lw_g (lw_at lw_m3 9 rfl) rfl
theorem q570 : (Jvm.Cond.methodLink "java/lang/String" (47 : Nat) ({ cls := "java/lang/StringUTF16", name := "coderFromArrayLen", desc := "([BI)B" } : Jvm.MethodName)) ∈ lw_all := lw_g (lw_at lw_m3 19 rfl) rfl
theorem q573 : (Jvm.Cond.fieldLink "java/lang/String" (9 : Nat) "java/lang/String" "value" "[B") ∈ lw_all := lw_g (lw_at lw_m3 22 rfl) rfl
theorem q574 : (Jvm.Cond.fieldLink "java/lang/String" (15 : Nat) "java/lang/String" "coder" "B") ∈ lw_all := lw_g (lw_at lw_m3 23 rfl) rfl
theorem q575 : (Jvm.Cond.fieldLink "java/lang/String" (19 : Nat) "java/lang/String" "hash" "I") ∈ lw_all := lw_g (lw_at lw_m3 24 rfl) rfl
theorem q576 : (Jvm.Cond.fieldLink "java/lang/String" (23 : Nat) "java/lang/String" "hashIsZero" "Z") ∈ lw_all := lw_g (lw_at lw_m3 25 rfl) rfl
theorem q577 : (Jvm.Cond.laysFinal "java/lang/String" "java/lang/String" "value" "[B") ∈ lw_all := lw_g (lw_at lw_m3 26 rfl) rfl
theorem q578 : (Jvm.Cond.soleField "java/lang/String" "value") ∈ lw_all := lw_g (lw_at lw_m3 27 rfl) rfl
theorem q579 : (Jvm.Cond.laysFinal "java/lang/String" "java/lang/String" "coder" "B") ∈ lw_all := lw_g (lw_at lw_m3 28 rfl) rfl
theorem q580 : (Jvm.Cond.soleField "java/lang/String" "coder") ∈ lw_all := lw_g (lw_at lw_m3 29 rfl) rfl
theorem q581 : (Jvm.Cond.lays "java/lang/String" "java/lang/String" "hash" "I") ∈ lw_all := lw_g (lw_at lw_m3 30 rfl) rfl
theorem q582 : (Jvm.Cond.soleField "java/lang/String" "hash") ∈ lw_all := lw_g (lw_at lw_m3 31 rfl) rfl
theorem q583 : (Jvm.Cond.lays "java/lang/String" "java/lang/String" "hashIsZero" "Z") ∈ lw_all := lw_g (lw_at lw_m3 32 rfl) rfl
theorem q584 : (Jvm.Cond.soleField "java/lang/String" "hashIsZero") ∈ lw_all := lw_g (lw_at lw_m3 33 rfl) rfl
theorem q585 : (Jvm.Cond.superclass "java/lang/String" "java/lang/Object") ∈ lw_all := lw_g (lw_at lw_m3 34 rfl) rfl
theorem q701 : (Jvm.Cond.static ({ cls := "java/lang/String", name := "checkIndex", desc := "(II)V" } : Jvm.MethodName)) ∈ lw_all := lw_g (lw_at lw_m3 150 rfl) rfl
theorem q702 : (Jvm.Cond.code ({ cls := "java/lang/String", name := "checkIndex", desc := "(II)V" } : Jvm.MethodName) prog_27_method_155_code (2 : Nat) (Option.none : Option Jvm.ClassFile.FieldType)) ∈ lw_all := lw_g (lw_at lw_m3 151 rfl) rfl
theorem q703 : (Jvm.Cond.methodLink "java/lang/String" (1059 : Nat) ({ cls := "jdk/internal/util/Preconditions", name := "checkIndex", desc := "(IILjava/util/function/BiFunction;)I" } : Jvm.MethodName)) ∈ lw_all := lw_g (lw_at lw_m3 152 rfl) rfl
theorem q770 : (Jvm.Cond.selects "java/lang/String" ({ cls := "java/lang/Object", name := "hashCode", desc := "()I" } : Jvm.MethodName) ({ cls := "java/lang/String", name := "hashCode", desc := "()I" } : Jvm.MethodName)) ∈ lw_all := lw_g (lw_at lw_m3 219 rfl) rfl
theorem q771 : (Jvm.Cond.instanceMethod ({ cls := "java/lang/String", name := "hashCode", desc := "()I" } : Jvm.MethodName)) ∈ lw_all := lw_g (lw_at lw_m3 220 rfl) rfl
theorem q772 : (Jvm.Cond.code ({ cls := "java/lang/String", name := "hashCode", desc := "()I" } : Jvm.MethodName) prog_27_method_78_code (2 : Nat) (Option.some Jvm.ClassFile.FieldType.int)) ∈ lw_all := lw_g (lw_at lw_m3 221 rfl) rfl
theorem q773 : (Jvm.Cond.methodLink "java/lang/String" (492 : Nat) ({ cls := "java/lang/String", name := "isLatin1", desc := "()Z" } : Jvm.MethodName)) ∈ lw_all := lw_g (lw_at lw_m3 222 rfl) rfl
theorem q774 : (Jvm.Cond.instanceMethod ({ cls := "java/lang/String", name := "isLatin1", desc := "()Z" } : Jvm.MethodName)) ∈ lw_all := lw_g (lw_at lw_m3 223 rfl) rfl
theorem q775 : (Jvm.Cond.selects "java/lang/String" ({ cls := "java/lang/String", name := "isLatin1", desc := "()Z" } : Jvm.MethodName) ({ cls := "java/lang/String", name := "isLatin1", desc := "()Z" } : Jvm.MethodName)) ∈ lw_all := lw_g (lw_at lw_m3 224 rfl) rfl
theorem q776 : (Jvm.Cond.code ({ cls := "java/lang/String", name := "isLatin1", desc := "()Z" } : Jvm.MethodName) prog_27_method_154_code (1 : Nat) (Option.some Jvm.ClassFile.FieldType.boolean)) ∈ lw_all := lw_g (lw_at lw_m3 225 rfl) rfl
theorem q777 : (Jvm.Cond.methodLink "java/lang/String" (628 : Nat) ({ cls := "java/lang/StringLatin1", name := "hashCode", desc := "([B)I" } : Jvm.MethodName)) ∈ lw_all := lw_g (lw_at lw_m3 226 rfl) rfl
theorem q826 : (Jvm.Cond.methodLink "java/lang/String" (632 : Nat) ({ cls := "java/lang/StringUTF16", name := "hashCode", desc := "([B)I" } : Jvm.MethodName)) ∈ lw_all := lw_g (lw_at lw_m4 35 rfl) rfl
theorem q853 : (Jvm.Cond.selects "java/lang/String" ({ cls := "java/lang/Object", name := "equals", desc := "(Ljava/lang/Object;)Z" } : Jvm.MethodName) ({ cls := "java/lang/String", name := "equals", desc := "(Ljava/lang/Object;)Z" } : Jvm.MethodName)) ∈ lw_all := lw_g (lw_at lw_m4 62 rfl) rfl
theorem q854 : (Jvm.Cond.instanceMethod ({ cls := "java/lang/String", name := "equals", desc := "(Ljava/lang/Object;)Z" } : Jvm.MethodName)) ∈ lw_all := lw_g (lw_at lw_m4 63 rfl) rfl
theorem q855 : (Jvm.Cond.code ({ cls := "java/lang/String", name := "equals", desc := "(Ljava/lang/Object;)Z" } : Jvm.MethodName) prog_27_method_66_code (3 : Nat) (Option.some Jvm.ClassFile.FieldType.boolean)) ∈ lw_all := lw_g (lw_at lw_m4 64 rfl) rfl
theorem q856 : (Jvm.Cond.classLink "java/lang/String" (10 : Nat) "java/lang/String") ∈ lw_all := lw_g (lw_at lw_m4 65 rfl) rfl
theorem q857 : (Jvm.Cond.methodLink "java/lang/String" (541 : Nat) ({ cls := "java/lang/StringLatin1", name := "equals", desc := "([B[B)Z" } : Jvm.MethodName)) ∈ lw_all := lw_g (lw_at lw_m4 66 rfl) rfl
theorem q897 : (Jvm.Cond.selects "java/lang/String" ({ cls := "java/lang/Object", name := "getClass", desc := "()Ljava/lang/Class;" } : Jvm.MethodName) ({ cls := "java/lang/Object", name := "getClass", desc := "()Ljava/lang/Class;" } : Jvm.MethodName)) ∈ lw_all := lw_g (lw_at lw_m4 106 rfl) rfl
theorem q915 : (Jvm.Cond.castable "java/lang/String" "java/lang/Comparable") ∈ lw_tbl := lw_at lw_m4 124 rfl
theorem q916 : (Jvm.Cond.selects "java/lang/String" ({ cls := "java/lang/Comparable", name := "compareTo", desc := "(Ljava/lang/Object;)I" } : Jvm.MethodName) ({ cls := "java/lang/String", name := "compareTo", desc := "(Ljava/lang/Object;)I" } : Jvm.MethodName)) ∈ lw_all := lw_g (lw_at lw_m4 125 rfl) rfl
theorem q917 : (Jvm.Cond.unhidden "java/lang/String" "compareTo" "(Ljava/lang/Object;)I") ∈ lw_tbl := lw_at lw_m4 126 rfl
theorem q918 : (Jvm.Cond.instanceMethod ({ cls := "java/lang/String", name := "compareTo", desc := "(Ljava/lang/Object;)I" } : Jvm.MethodName)) ∈ lw_all := lw_g (lw_at lw_m4 127 rfl) rfl
theorem q919 : (Jvm.Cond.publicMethod ({ cls := "java/lang/String", name := "compareTo", desc := "(Ljava/lang/Object;)I" } : Jvm.MethodName)) ∈ lw_tbl := lw_at lw_m4 128 rfl
theorem q920 : (Jvm.Cond.code ({ cls := "java/lang/String", name := "compareTo", desc := "(Ljava/lang/Object;)I" } : Jvm.MethodName) prog_27_method_162_code (2 : Nat) (Option.some Jvm.ClassFile.FieldType.int)) ∈ lw_all := lw_g (lw_at lw_m4 129 rfl) rfl
theorem q921 : (Jvm.Cond.methodLink "java/lang/String" (1084 : Nat) ({ cls := "java/lang/String", name := "compareTo", desc := "(Ljava/lang/String;)I" } : Jvm.MethodName)) ∈ lw_all := lw_g (lw_at lw_m4 130 rfl) rfl
theorem q922 : (Jvm.Cond.instanceMethod ({ cls := "java/lang/String", name := "compareTo", desc := "(Ljava/lang/String;)I" } : Jvm.MethodName)) ∈ lw_all := lw_g (lw_at lw_m4 131 rfl) rfl
theorem q923 : (Jvm.Cond.selects "java/lang/String" ({ cls := "java/lang/String", name := "compareTo", desc := "(Ljava/lang/String;)I" } : Jvm.MethodName) ({ cls := "java/lang/String", name := "compareTo", desc := "(Ljava/lang/String;)I" } : Jvm.MethodName)) ∈ lw_all := lw_g (lw_at lw_m4 132 rfl) rfl
theorem q924 : (Jvm.Cond.code ({ cls := "java/lang/String", name := "compareTo", desc := "(Ljava/lang/String;)I" } : Jvm.MethodName) prog_27_method_71_code (5 : Nat) (Option.some Jvm.ClassFile.FieldType.int)) ∈ lw_all := lw_g (lw_at lw_m4 133 rfl) rfl
theorem q925 : (Jvm.Cond.methodLink "java/lang/String" (586 : Nat) ({ cls := "java/lang/StringLatin1", name := "compareTo", desc := "([B[B)I" } : Jvm.MethodName)) ∈ lw_all := lw_g (lw_at lw_m4 134 rfl) rfl
theorem q1039 : (Jvm.Cond.methodLink "java/lang/String" (590 : Nat) ({ cls := "java/lang/StringUTF16", name := "compareTo", desc := "([B[B)I" } : Jvm.MethodName)) ∈ lw_all := lw_g (lw_at lw_m5 8 rfl) rfl
theorem q1046 : (Jvm.Cond.methodLink "java/lang/String" (591 : Nat) ({ cls := "java/lang/StringLatin1", name := "compareToUTF16", desc := "([B[B)I" } : Jvm.MethodName)) ∈ lw_all := lw_g (lw_at lw_m5 15 rfl) rfl
theorem q1057 : (Jvm.Cond.methodLink "java/lang/String" (594 : Nat) ({ cls := "java/lang/StringUTF16", name := "compareToLatin1", desc := "([B[B)I" } : Jvm.MethodName)) ∈ lw_all := lw_g (lw_at lw_m5 26 rfl) rfl
theorem q1083 : (Jvm.Cond.static ({ cls := "java/lang/String", name := "checkOffset", desc := "(II)V" } : Jvm.MethodName)) ∈ lw_all := lw_g (lw_at lw_m5 52 rfl) rfl
theorem q1084 : (Jvm.Cond.code ({ cls := "java/lang/String", name := "checkOffset", desc := "(II)V" } : Jvm.MethodName) prog_27_method_156_code (2 : Nat) (Option.none : Option Jvm.ClassFile.FieldType)) ∈ lw_all := lw_g (lw_at lw_m5 53 rfl) rfl
theorem q2095 : (Jvm.Cond.castable "java/lang/String" "java/lang/Object") ∈ lw_tbl := lw_at lw_m9 104 rfl
theorem in_J7 : ∀ w ∈ wsJ70, w ∈ lw_all := lw_in wsJ70 [577, 579, 581, 583] (by decide +kernel) (by decide +kernel)

/-! java/lang/Math -/
set_option maxRecDepth 100000
def RJ15 : String := "java/lang/Math"
abbrev cJ15_max : ByteArray := prog_24_method_65_code
def yJ15_max : MethodName := ⟨RJ15, "max", "(II)I"⟩
def dkwJ15_max_0 : List UInt8 := [26, 27, 161, 0, 7, 26, 167, 0, 4, 27, 172]
abbrev dktJ15_max_0 : List UInt8 := dkwJ15_max_0 ++ []
theorem dksJ15_max_0 : cJ15_max.data.toList.drop 0 = dktJ15_max_0 := by decide +kernel
theorem dJ15_max_0 : decode cJ15_max 0 = .ok (.iload_n 0, 1) := dk_26 (dk_at dksJ15_max_0 0 rfl rfl)
theorem dJ15_max_1 : decode cJ15_max 1 = .ok (.iload_n 1, 1) := dk_27 (dk_at dksJ15_max_0 1 rfl rfl)
theorem dJ15_max_2 : decode cJ15_max 2 = .ok (.if_icmp .lt 7, 3) := dk_161 0 7 (dk_at dksJ15_max_0 2 rfl rfl)
theorem dJ15_max_5 : decode cJ15_max 5 = .ok (.iload_n 0, 1) := dk_26 (dk_at dksJ15_max_0 5 rfl rfl)
theorem dJ15_max_6 : decode cJ15_max 6 = .ok (.goto 4, 3) := dk_167 0 4 (dk_at dksJ15_max_0 6 rfl rfl)
theorem dJ15_max_9 : decode cJ15_max 9 = .ok (.iload_n 1, 1) := dk_27 (dk_at dksJ15_max_0 9 rfl rfl)
theorem dJ15_max_10 : decode cJ15_max 10 = .ok (.ireturn, 1) := dk_172 (dk_at dksJ15_max_0 10 rfl rfl)
abbrev cJ15_min : ByteArray := prog_24_method_69_code
def yJ15_min : MethodName := ⟨RJ15, "min", "(II)I"⟩
def dkwJ15_min_0 : List UInt8 := [26, 27, 163, 0, 7, 26, 167, 0, 4, 27, 172]
abbrev dktJ15_min_0 : List UInt8 := dkwJ15_min_0 ++ []
theorem dksJ15_min_0 : cJ15_min.data.toList.drop 0 = dktJ15_min_0 := by decide +kernel
theorem dJ15_min_0 : decode cJ15_min 0 = .ok (.iload_n 0, 1) := dk_26 (dk_at dksJ15_min_0 0 rfl rfl)
theorem dJ15_min_1 : decode cJ15_min 1 = .ok (.iload_n 1, 1) := dk_27 (dk_at dksJ15_min_0 1 rfl rfl)
theorem dJ15_min_2 : decode cJ15_min 2 = .ok (.if_icmp .gt 7, 3) := dk_163 0 7 (dk_at dksJ15_min_0 2 rfl rfl)
theorem dJ15_min_5 : decode cJ15_min 5 = .ok (.iload_n 0, 1) := dk_26 (dk_at dksJ15_min_0 5 rfl rfl)
theorem dJ15_min_6 : decode cJ15_min 6 = .ok (.goto 4, 3) := dk_167 0 4 (dk_at dksJ15_min_0 6 rfl rfl)
theorem dJ15_min_9 : decode cJ15_min 9 = .ok (.iload_n 1, 1) := dk_27 (dk_at dksJ15_min_0 9 rfl rfl)
theorem dJ15_min_10 : decode cJ15_min 10 = .ok (.ireturn, 1) := dk_172 (dk_at dksJ15_min_0 10 rfl rfl)
abbrev cJ15_abs : ByteArray := prog_24_method_59_code
def yJ15_abs : MethodName := ⟨RJ15, "abs", "(I)I"⟩
def dkwJ15_abs_0 : List UInt8 := [26, 156, 0, 8, 26, 116, 167, 0, 4, 26, 172]
abbrev dktJ15_abs_0 : List UInt8 := dkwJ15_abs_0 ++ []
theorem dksJ15_abs_0 : cJ15_abs.data.toList.drop 0 = dktJ15_abs_0 := by decide +kernel
theorem dJ15_abs_0 : decode cJ15_abs 0 = .ok (.iload_n 0, 1) := dk_26 (dk_at dksJ15_abs_0 0 rfl rfl)
theorem dJ15_abs_1 : decode cJ15_abs 1 = .ok (.ifCond .ge 8, 3) := dk_156 0 8 (dk_at dksJ15_abs_0 1 rfl rfl)
theorem dJ15_abs_4 : decode cJ15_abs 4 = .ok (.iload_n 0, 1) := dk_26 (dk_at dksJ15_abs_0 4 rfl rfl)
theorem dJ15_abs_5 : decode cJ15_abs 5 = .ok (.ineg, 1) := dk_116 (dk_at dksJ15_abs_0 5 rfl rfl)
theorem dJ15_abs_6 : decode cJ15_abs 6 = .ok (.goto 4, 3) := dk_167 0 4 (dk_at dksJ15_abs_0 6 rfl rfl)
theorem dJ15_abs_9 : decode cJ15_abs 9 = .ok (.iload_n 0, 1) := dk_26 (dk_at dksJ15_abs_0 9 rfl rfl)
theorem dJ15_abs_10 : decode cJ15_abs 10 = .ok (.ireturn, 1) := dk_172 (dk_at dksJ15_abs_0 10 rfl rfl)
theorem q90 : (Jvm.Cond.initialized "java/lang/Math") ∈ lw_all := lw_g (lw_at lw_m1 19 rfl) rfl
theorem q335 : (Jvm.Cond.static ({ cls := "java/lang/Math", name := "max", desc := "(II)I" } : Jvm.MethodName)) ∈ lw_all := lw_g (lw_at lw_m2 24 rfl) rfl
theorem q336 : (Jvm.Cond.code ({ cls := "java/lang/Math", name := "max", desc := "(II)I" } : Jvm.MethodName) prog_24_method_65_code (2 : Nat) (Option.some Jvm.ClassFile.FieldType.int)) ∈ lw_all := lw_g (lw_at lw_m2 25 rfl) rfl
theorem q353 : (Jvm.Cond.static ({ cls := "java/lang/Math", name := "min", desc := "(II)I" } : Jvm.MethodName)) ∈ lw_all := lw_g (lw_at lw_m2 42 rfl) rfl
theorem q354 : (Jvm.Cond.code ({ cls := "java/lang/Math", name := "min", desc := "(II)I" } : Jvm.MethodName) prog_24_method_69_code (2 : Nat) (Option.some Jvm.ClassFile.FieldType.int)) ∈ lw_all := lw_g (lw_at lw_m2 43 rfl) rfl
theorem q1111 : (Jvm.Cond.static ({ cls := "java/lang/Math", name := "abs", desc := "(I)I" } : Jvm.MethodName)) ∈ lw_all := lw_g (lw_at lw_m5 80 rfl) rfl
theorem q1112 : (Jvm.Cond.code ({ cls := "java/lang/Math", name := "abs", desc := "(I)I" } : Jvm.MethodName) prog_24_method_59_code (1 : Nat) (Option.some Jvm.ClassFile.FieldType.int)) ∈ lw_all := lw_g (lw_at lw_m5 81 rfl) rfl

/-! java/util/Objects -/
set_option maxRecDepth 100000
def RJ17 : String := "java/util/Objects"
abbrev cJ17_checkIndex : ByteArray := prog_50_method_17_code
def yJ17_checkIndex : MethodName := ⟨RJ17, "checkIndex", "(II)I"⟩
def dkwJ17_checkIndex_0 : List UInt8 := [26, 27, 1, 184, 0, 105, 172]
abbrev dktJ17_checkIndex_0 : List UInt8 := dkwJ17_checkIndex_0 ++ []
theorem dksJ17_checkIndex_0 : cJ17_checkIndex.data.toList.drop 0 = dktJ17_checkIndex_0 := by decide +kernel
theorem dJ17_checkIndex_0 : decode cJ17_checkIndex 0 = .ok (.iload_n 0, 1) := dk_26 (dk_at dksJ17_checkIndex_0 0 rfl rfl)
theorem dJ17_checkIndex_1 : decode cJ17_checkIndex 1 = .ok (.iload_n 1, 1) := dk_27 (dk_at dksJ17_checkIndex_0 1 rfl rfl)
theorem dJ17_checkIndex_2 : decode cJ17_checkIndex 2 = .ok (.aconst_null, 1) := dk_1 (dk_at dksJ17_checkIndex_0 2 rfl rfl)
theorem dJ17_checkIndex_3 : decode cJ17_checkIndex 3 = .ok (.invokestatic 105, 3) := dk_184 0 105 (dk_at dksJ17_checkIndex_0 3 rfl rfl)
theorem dJ17_checkIndex_6 : decode cJ17_checkIndex 6 = .ok (.ireturn, 1) := dk_172 (dk_at dksJ17_checkIndex_0 6 rfl rfl)
theorem q92 : (Jvm.Cond.initialized "java/util/Objects") ∈ lw_all := lw_g (lw_at lw_m1 21 rfl) rfl
theorem q1180 : (Jvm.Cond.static ({ cls := "java/util/Objects", name := "checkIndex", desc := "(II)I" } : Jvm.MethodName)) ∈ lw_all := lw_g (lw_at lw_m5 149 rfl) rfl
theorem q1181 : (Jvm.Cond.code ({ cls := "java/util/Objects", name := "checkIndex", desc := "(II)I" } : Jvm.MethodName) prog_50_method_17_code (2 : Nat) (Option.some Jvm.ClassFile.FieldType.int)) ∈ lw_all := lw_g (lw_at lw_m5 150 rfl) rfl
theorem q1182 : (Jvm.Cond.methodLink "java/util/Objects" (105 : Nat) ({ cls := "jdk/internal/util/Preconditions", name := "checkIndex", desc := "(IILjava/util/function/BiFunction;)I" } : Jvm.MethodName)) ∈ lw_all := lw_g (lw_at lw_m5 151 rfl) rfl

/-! jdk/internal/util/Preconditions -/
set_option maxRecDepth 100000
def RJ18 : String := "jdk/internal/util/Preconditions"
abbrev cJ18_checkIndex : ByteArray := prog_57_method_11_code
def yJ18_checkIndex : MethodName := ⟨RJ18, "checkIndex", "(IILjava/util/function/BiFunction;)I"⟩
def dkwJ18_checkIndex_0 : List UInt8 := [26, 155, 0, 8, 26, 27, 161, 0, 10, 44, 26, 27, 184, 0, 95, 191, 26, 172]
abbrev dktJ18_checkIndex_0 : List UInt8 := dkwJ18_checkIndex_0 ++ []
theorem dksJ18_checkIndex_0 : cJ18_checkIndex.data.toList.drop 0 = dktJ18_checkIndex_0 := by decide +kernel
theorem dJ18_checkIndex_0 : decode cJ18_checkIndex 0 = .ok (.iload_n 0, 1) := dk_26 (dk_at dksJ18_checkIndex_0 0 rfl rfl)
theorem dJ18_checkIndex_1 : decode cJ18_checkIndex 1 = .ok (.ifCond .lt 8, 3) := dk_155 0 8 (dk_at dksJ18_checkIndex_0 1 rfl rfl)
theorem dJ18_checkIndex_4 : decode cJ18_checkIndex 4 = .ok (.iload_n 0, 1) := dk_26 (dk_at dksJ18_checkIndex_0 4 rfl rfl)
theorem dJ18_checkIndex_5 : decode cJ18_checkIndex 5 = .ok (.iload_n 1, 1) := dk_27 (dk_at dksJ18_checkIndex_0 5 rfl rfl)
theorem dJ18_checkIndex_6 : decode cJ18_checkIndex 6 = .ok (.if_icmp .lt 10, 3) := dk_161 0 10 (dk_at dksJ18_checkIndex_0 6 rfl rfl)
theorem dJ18_checkIndex_9 : decode cJ18_checkIndex 9 = .ok (.aload_n 2, 1) := dk_44 (dk_at dksJ18_checkIndex_0 9 rfl rfl)
theorem dJ18_checkIndex_10 : decode cJ18_checkIndex 10 = .ok (.iload_n 0, 1) := dk_26 (dk_at dksJ18_checkIndex_0 10 rfl rfl)
theorem dJ18_checkIndex_11 : decode cJ18_checkIndex 11 = .ok (.iload_n 1, 1) := dk_27 (dk_at dksJ18_checkIndex_0 11 rfl rfl)
theorem dJ18_checkIndex_12 : decode cJ18_checkIndex 12 = .ok (.invokestatic 95, 3) := dk_184 0 95 (dk_at dksJ18_checkIndex_0 12 rfl rfl)
theorem dJ18_checkIndex_15 : decode cJ18_checkIndex 15 = .ok (.athrow, 1) := dk_191 (dk_at dksJ18_checkIndex_0 15 rfl rfl)
theorem dJ18_checkIndex_16 : decode cJ18_checkIndex 16 = .ok (.iload_n 0, 1) := dk_26 (dk_at dksJ18_checkIndex_0 16 rfl rfl)
theorem dJ18_checkIndex_17 : decode cJ18_checkIndex 17 = .ok (.ireturn, 1) := dk_172 (dk_at dksJ18_checkIndex_0 17 rfl rfl)
theorem q93 : (Jvm.Cond.initialized "jdk/internal/util/Preconditions") ∈ lw_all := lw_g (lw_at lw_m1 22 rfl) rfl
theorem q376 : (Jvm.Cond.laysStatic "jdk/internal/util/Preconditions" "SIOOBE_FORMATTER" "Ljava/util/function/BiFunction;") ∈ lw_tbl := lw_at lw_m2 65 rfl
theorem q378 : (Jvm.Cond.static ({ cls := "jdk/internal/util/Preconditions", name := "checkFromToIndex", desc := "(IIILjava/util/function/BiFunction;)I" } : Jvm.MethodName)) ∈ lw_all := lw_g (lw_at lw_m2 67 rfl) rfl
theorem q379 : (Jvm.Cond.code ({ cls := "jdk/internal/util/Preconditions", name := "checkFromToIndex", desc := "(IIILjava/util/function/BiFunction;)I" } : Jvm.MethodName) prog_57_method_12_code (4 : Nat) (Option.some Jvm.ClassFile.FieldType.int)) ∈ lw_all := lw_g (lw_at lw_m2 68 rfl) rfl
theorem q424 : (Jvm.Cond.static ({ cls := "jdk/internal/util/Preconditions", name := "checkFromIndexSize", desc := "(IIILjava/util/function/BiFunction;)I" } : Jvm.MethodName)) ∈ lw_all := lw_g (lw_at lw_m2 113 rfl) rfl
theorem q425 : (Jvm.Cond.code ({ cls := "jdk/internal/util/Preconditions", name := "checkFromIndexSize", desc := "(IIILjava/util/function/BiFunction;)I" } : Jvm.MethodName) prog_57_method_13_code (4 : Nat) (Option.some Jvm.ClassFile.FieldType.int)) ∈ lw_all := lw_g (lw_at lw_m2 114 rfl) rfl
theorem q704 : (Jvm.Cond.static ({ cls := "jdk/internal/util/Preconditions", name := "checkIndex", desc := "(IILjava/util/function/BiFunction;)I" } : Jvm.MethodName)) ∈ lw_all := lw_g (lw_at lw_m3 153 rfl) rfl
theorem q705 : (Jvm.Cond.code ({ cls := "jdk/internal/util/Preconditions", name := "checkIndex", desc := "(IILjava/util/function/BiFunction;)I" } : Jvm.MethodName) prog_57_method_11_code (3 : Nat) (Option.some Jvm.ClassFile.FieldType.int)) ∈ lw_all := lw_g (lw_at lw_m3 154 rfl) rfl

/-! jdk/internal/util/ArraysSupport -/
set_option maxRecDepth 100000
def RJ19 : String := "jdk/internal/util/ArraysSupport"
abbrev cJ19_newLength : ByteArray := prog_56_method_27_code
def yJ19_newLength : MethodName := ⟨RJ19, "newLength", "(III)I"⟩
def dkwJ19_newLength_1 : List UInt8 := [184, 0, 201, 172]
abbrev dktJ19_newLength_1 : List UInt8 := dkwJ19_newLength_1 ++ []
def dkwJ19_newLength_0 : List UInt8 := [26, 27, 28, 184, 0, 194, 96, 62, 3, 29, 162, 0, 11, 29, 18, 200, 163, 0, 5, 29, 172, 26, 27]
abbrev dktJ19_newLength_0 : List UInt8 := dkwJ19_newLength_0 ++ dktJ19_newLength_1
theorem dksJ19_newLength_0 : cJ19_newLength.data.toList.drop 0 = dktJ19_newLength_0 := by decide +kernel
theorem dksJ19_newLength_1 : cJ19_newLength.data.toList.drop 23 = dktJ19_newLength_1 := dk_seg dksJ19_newLength_0 23 rfl rfl
theorem dJ19_newLength_0 : decode cJ19_newLength 0 = .ok (.iload_n 0, 1) := dk_26 (dk_at dksJ19_newLength_0 0 rfl rfl)
theorem dJ19_newLength_1 : decode cJ19_newLength 1 = .ok (.iload_n 1, 1) := dk_27 (dk_at dksJ19_newLength_0 1 rfl rfl)
theorem dJ19_newLength_2 : decode cJ19_newLength 2 = .ok (.iload_n 2, 1) := dk_28 (dk_at dksJ19_newLength_0 2 rfl rfl)
theorem dJ19_newLength_3 : decode cJ19_newLength 3 = .ok (.invokestatic 194, 3) := dk_184 0 194 (dk_at dksJ19_newLength_0 3 rfl rfl)
theorem dJ19_newLength_6 : decode cJ19_newLength 6 = .ok (.iadd, 1) := dk_96 (dk_at dksJ19_newLength_0 6 rfl rfl)
theorem dJ19_newLength_7 : decode cJ19_newLength 7 = .ok (.istore_n 3, 1) := dk_62 (dk_at dksJ19_newLength_0 7 rfl rfl)
theorem dJ19_newLength_8 : decode cJ19_newLength 8 = .ok (.iconst 0, 1) := dk_3 (dk_at dksJ19_newLength_0 8 rfl rfl)
theorem dJ19_newLength_9 : decode cJ19_newLength 9 = .ok (.iload_n 3, 1) := dk_29 (dk_at dksJ19_newLength_0 9 rfl rfl)
theorem dJ19_newLength_10 : decode cJ19_newLength 10 = .ok (.if_icmp .ge 11, 3) := dk_162 0 11 (dk_at dksJ19_newLength_0 10 rfl rfl)
theorem dJ19_newLength_13 : decode cJ19_newLength 13 = .ok (.iload_n 3, 1) := dk_29 (dk_at dksJ19_newLength_0 13 rfl rfl)
theorem dJ19_newLength_14 : decode cJ19_newLength 14 = .ok (.ldc 200, 2) := dk_18 200 (dk_at dksJ19_newLength_0 14 rfl rfl)
theorem dJ19_newLength_16 : decode cJ19_newLength 16 = .ok (.if_icmp .gt 5, 3) := dk_163 0 5 (dk_at dksJ19_newLength_0 16 rfl rfl)
theorem dJ19_newLength_19 : decode cJ19_newLength 19 = .ok (.iload_n 3, 1) := dk_29 (dk_at dksJ19_newLength_0 19 rfl rfl)
theorem dJ19_newLength_20 : decode cJ19_newLength 20 = .ok (.ireturn, 1) := dk_172 (dk_at dksJ19_newLength_0 20 rfl rfl)
theorem dJ19_newLength_21 : decode cJ19_newLength 21 = .ok (.iload_n 0, 1) := dk_26 (dk_at dksJ19_newLength_0 21 rfl rfl)
theorem dJ19_newLength_22 : decode cJ19_newLength 22 = .ok (.iload_n 1, 1) := dk_27 (dk_at dksJ19_newLength_0 22 rfl rfl)
theorem dJ19_newLength_23 : decode cJ19_newLength 23 = .ok (.invokestatic 201, 3) := dk_184 0 201 (dk_at dksJ19_newLength_1 0 rfl rfl)
theorem dJ19_newLength_26 : decode cJ19_newLength 26 = .ok (.ireturn, 1) := dk_172 (dk_at dksJ19_newLength_1 3 rfl rfl)
theorem q96 : (Jvm.Cond.initialized "jdk/internal/util/ArraysSupport") ∈ lw_all := lw_g (lw_at lw_m1 25 rfl) rfl
theorem q332 : (Jvm.Cond.static ({ cls := "jdk/internal/util/ArraysSupport", name := "newLength", desc := "(III)I" } : Jvm.MethodName)) ∈ lw_all := lw_g (lw_at lw_m2 21 rfl) rfl
theorem q333 : (Jvm.Cond.code ({ cls := "jdk/internal/util/ArraysSupport", name := "newLength", desc := "(III)I" } : Jvm.MethodName) prog_56_method_27_code (4 : Nat) (Option.some Jvm.ClassFile.FieldType.int)) ∈ lw_all := lw_g (lw_at lw_m2 22 rfl) rfl
theorem q334 : (Jvm.Cond.methodLink "jdk/internal/util/ArraysSupport" (194 : Nat) ({ cls := "java/lang/Math", name := "max", desc := "(II)I" } : Jvm.MethodName)) ∈ lw_all := lw_g (lw_at lw_m2 23 rfl) rfl
theorem q337 : (Jvm.Cond.constant "jdk/internal/util/ArraysSupport" (200 : Nat) (2147483639 : Int32)) ∈ lw_all := lw_g (lw_at lw_m2 26 rfl) rfl
theorem q338 : (Jvm.Cond.methodLink "jdk/internal/util/ArraysSupport" (201 : Nat) ({ cls := "jdk/internal/util/ArraysSupport", name := "hugeLength", desc := "(II)I" } : Jvm.MethodName)) ∈ lw_all := lw_g (lw_at lw_m2 27 rfl) rfl
theorem q339 : (Jvm.Cond.static ({ cls := "jdk/internal/util/ArraysSupport", name := "hugeLength", desc := "(II)I" } : Jvm.MethodName)) ∈ lw_all := lw_g (lw_at lw_m2 28 rfl) rfl
theorem q340 : (Jvm.Cond.code ({ cls := "jdk/internal/util/ArraysSupport", name := "hugeLength", desc := "(II)I" } : Jvm.MethodName) prog_56_method_28_code (3 : Nat) (Option.some Jvm.ClassFile.FieldType.int)) ∈ lw_all := lw_g (lw_at lw_m2 29 rfl) rfl
theorem q781 : (Jvm.Cond.static ({ cls := "jdk/internal/util/ArraysSupport", name := "vectorizedHashCode", desc := "(Ljava/lang/Object;IIII)I" } : Jvm.MethodName)) ∈ lw_all := lw_g (lw_at lw_m3 230 rfl) rfl
theorem q782 : (Jvm.Cond.code ({ cls := "jdk/internal/util/ArraysSupport", name := "vectorizedHashCode", desc := "(Ljava/lang/Object;IIII)I" } : Jvm.MethodName) prog_56_method_4_code (5 : Nat) (Option.some Jvm.ClassFile.FieldType.int)) ∈ lw_all := lw_g (lw_at lw_m3 231 rfl) rfl
theorem q783 : (Jvm.Cond.classLink "jdk/internal/util/ArraysSupport" (60 : Nat) "[B") ∈ lw_all := lw_g (lw_at lw_m3 232 rfl) rfl
theorem q784 : (Jvm.Cond.methodLink "jdk/internal/util/ArraysSupport" (62 : Nat) ({ cls := "jdk/internal/util/ArraysSupport", name := "signedHashCode", desc := "(I[BII)I" } : Jvm.MethodName)) ∈ lw_all := lw_g (lw_at lw_m3 233 rfl) rfl
theorem q785 : (Jvm.Cond.static ({ cls := "jdk/internal/util/ArraysSupport", name := "signedHashCode", desc := "(I[BII)I" } : Jvm.MethodName)) ∈ lw_all := lw_g (lw_at lw_m3 234 rfl) rfl
theorem q786 : (Jvm.Cond.code ({ cls := "jdk/internal/util/ArraysSupport", name := "signedHashCode", desc := "(I[BII)I" } : Jvm.MethodName) prog_56_method_5_code (6 : Nat) (Option.some Jvm.ClassFile.FieldType.int)) ∈ lw_all := lw_g (lw_at lw_m3 235 rfl) rfl
theorem q787 : (Jvm.Cond.methodLink "jdk/internal/util/ArraysSupport" (66 : Nat) ({ cls := "jdk/internal/util/ArraysSupport", name := "utf16hashCode", desc := "(I[BII)I" } : Jvm.MethodName)) ∈ lw_all := lw_g (lw_at lw_m3 236 rfl) rfl
theorem q788 : (Jvm.Cond.static ({ cls := "jdk/internal/util/ArraysSupport", name := "utf16hashCode", desc := "(I[BII)I" } : Jvm.MethodName)) ∈ lw_all := lw_g (lw_at lw_m3 237 rfl) rfl
theorem q789 : (Jvm.Cond.code ({ cls := "jdk/internal/util/ArraysSupport", name := "utf16hashCode", desc := "(I[BII)I" } : Jvm.MethodName) prog_56_method_10_code (6 : Nat) (Option.some Jvm.ClassFile.FieldType.int)) ∈ lw_all := lw_g (lw_at lw_m3 238 rfl) rfl
theorem q790 : (Jvm.Cond.fieldLink "jdk/internal/util/ArraysSupport" (106 : Nat) "jdk/internal/util/ArraysSupport" "JLA" "Ljdk/internal/access/JavaLangAccess;") ∈ lw_all := lw_g (lw_at lw_m3 239 rfl) rfl
theorem q791 : (Jvm.Cond.laysStatic "jdk/internal/util/ArraysSupport" "JLA" "Ljdk/internal/access/JavaLangAccess;") ∈ lw_tbl := lw_at lw_m4 0 rfl
theorem q792 : (Jvm.Cond.interfaceEntry "jdk/internal/util/ArraysSupport" (110 : Nat)) ∈ lw_tbl := lw_at lw_m4 1 rfl
theorem q793 : (Jvm.Cond.methodLink "jdk/internal/util/ArraysSupport" (110 : Nat) ({ cls := "jdk/internal/access/JavaLangAccess", name := "getUTF16Char", desc := "([BI)C" } : Jvm.MethodName)) ∈ lw_all := lw_g (lw_at lw_m4 2 rfl) rfl
theorem q803 : (Jvm.Cond.classLink "jdk/internal/util/ArraysSupport" (69 : Nat) "[C") ∈ lw_all := lw_g (lw_at lw_m4 12 rfl) rfl
theorem q804 : (Jvm.Cond.methodLink "jdk/internal/util/ArraysSupport" (71 : Nat) ({ cls := "jdk/internal/util/ArraysSupport", name := "hashCode", desc := "(I[CII)I" } : Jvm.MethodName)) ∈ lw_all := lw_g (lw_at lw_m4 13 rfl) rfl
theorem q805 : (Jvm.Cond.static ({ cls := "jdk/internal/util/ArraysSupport", name := "hashCode", desc := "(I[CII)I" } : Jvm.MethodName)) ∈ lw_all := lw_g (lw_at lw_m4 14 rfl) rfl
theorem q806 : (Jvm.Cond.code ({ cls := "jdk/internal/util/ArraysSupport", name := "hashCode", desc := "(I[CII)I" } : Jvm.MethodName) prog_56_method_7_code (6 : Nat) (Option.some Jvm.ClassFile.FieldType.int)) ∈ lw_all := lw_g (lw_at lw_m4 15 rfl) rfl
theorem q807 : (Jvm.Cond.methodLink "jdk/internal/util/ArraysSupport" (75 : Nat) ({ cls := "jdk/internal/util/ArraysSupport", name := "hashCode", desc := "(I[BII)I" } : Jvm.MethodName)) ∈ lw_all := lw_g (lw_at lw_m4 16 rfl) rfl
theorem q808 : (Jvm.Cond.static ({ cls := "jdk/internal/util/ArraysSupport", name := "hashCode", desc := "(I[BII)I" } : Jvm.MethodName)) ∈ lw_all := lw_g (lw_at lw_m4 17 rfl) rfl
theorem q809 : (Jvm.Cond.code ({ cls := "jdk/internal/util/ArraysSupport", name := "hashCode", desc := "(I[BII)I" } : Jvm.MethodName) prog_56_method_6_code (6 : Nat) (Option.some Jvm.ClassFile.FieldType.int)) ∈ lw_all := lw_g (lw_at lw_m4 18 rfl) rfl
theorem q810 : (Jvm.Cond.classLink "jdk/internal/util/ArraysSupport" (77 : Nat) "[S") ∈ lw_all := lw_g (lw_at lw_m4 19 rfl) rfl
theorem q811 : (Jvm.Cond.methodLink "jdk/internal/util/ArraysSupport" (79 : Nat) ({ cls := "jdk/internal/util/ArraysSupport", name := "hashCode", desc := "(I[SII)I" } : Jvm.MethodName)) ∈ lw_all := lw_g (lw_at lw_m4 20 rfl) rfl
theorem q812 : (Jvm.Cond.static ({ cls := "jdk/internal/util/ArraysSupport", name := "hashCode", desc := "(I[SII)I" } : Jvm.MethodName)) ∈ lw_all := lw_g (lw_at lw_m4 21 rfl) rfl
theorem q813 : (Jvm.Cond.code ({ cls := "jdk/internal/util/ArraysSupport", name := "hashCode", desc := "(I[SII)I" } : Jvm.MethodName) prog_56_method_8_code (6 : Nat) (Option.some Jvm.ClassFile.FieldType.int)) ∈ lw_all := lw_g (lw_at lw_m4 22 rfl) rfl
theorem q814 : (Jvm.Cond.classLink "jdk/internal/util/ArraysSupport" (82 : Nat) "[I") ∈ lw_all := lw_g (lw_at lw_m4 23 rfl) rfl
theorem q815 : (Jvm.Cond.methodLink "jdk/internal/util/ArraysSupport" (84 : Nat) ({ cls := "jdk/internal/util/ArraysSupport", name := "hashCode", desc := "(I[III)I" } : Jvm.MethodName)) ∈ lw_all := lw_g (lw_at lw_m4 24 rfl) rfl
theorem q816 : (Jvm.Cond.static ({ cls := "jdk/internal/util/ArraysSupport", name := "hashCode", desc := "(I[III)I" } : Jvm.MethodName)) ∈ lw_all := lw_g (lw_at lw_m4 25 rfl) rfl
theorem q817 : (Jvm.Cond.code ({ cls := "jdk/internal/util/ArraysSupport", name := "hashCode", desc := "(I[III)I" } : Jvm.MethodName) prog_56_method_9_code (6 : Nat) (Option.some Jvm.ClassFile.FieldType.int)) ∈ lw_all := lw_g (lw_at lw_m4 26 rfl) rfl
theorem q818 : (Jvm.Cond.classLink "jdk/internal/util/ArraysSupport" (87 : Nat) "java/lang/IllegalArgumentException") ∈ lw_all := lw_g (lw_at lw_m4 27 rfl) rfl
theorem q819 : (Jvm.Cond.classLink "jdk/internal/util/ArraysSupport" (89 : Nat) "java/lang/StringBuilder") ∈ lw_all := lw_g (lw_at lw_m4 28 rfl) rfl
theorem q820 : (Jvm.Cond.methodLink "jdk/internal/util/ArraysSupport" (91 : Nat) ({ cls := "java/lang/StringBuilder", name := "<init>", desc := "()V" } : Jvm.MethodName)) ∈ lw_all := lw_g (lw_at lw_m4 29 rfl) rfl
theorem q821 : (Jvm.Cond.stringRef "jdk/internal/util/ArraysSupport" (92 : Nat) "unrecognized basic type: ") ∈ lw_tbl := lw_at lw_m4 30 rfl
theorem q822 : (Jvm.Cond.methodLink "jdk/internal/util/ArraysSupport" (94 : Nat) ({ cls := "java/lang/StringBuilder", name := "append", desc := "(Ljava/lang/String;)Ljava/lang/StringBuilder;" } : Jvm.MethodName)) ∈ lw_all := lw_g (lw_at lw_m4 31 rfl) rfl
theorem q823 : (Jvm.Cond.methodLink "jdk/internal/util/ArraysSupport" (98 : Nat) ({ cls := "java/lang/StringBuilder", name := "append", desc := "(I)Ljava/lang/StringBuilder;" } : Jvm.MethodName)) ∈ lw_all := lw_g (lw_at lw_m4 32 rfl) rfl
theorem q824 : (Jvm.Cond.methodLink "jdk/internal/util/ArraysSupport" (101 : Nat) ({ cls := "java/lang/StringBuilder", name := "toString", desc := "()Ljava/lang/String;" } : Jvm.MethodName)) ∈ lw_all := lw_g (lw_at lw_m4 33 rfl) rfl
theorem q825 : (Jvm.Cond.methodLink "jdk/internal/util/ArraysSupport" (105 : Nat) ({ cls := "java/lang/IllegalArgumentException", name := "<init>", desc := "(Ljava/lang/String;)V" } : Jvm.MethodName)) ∈ lw_all := lw_g (lw_at lw_m4 34 rfl) rfl
theorem q933 : (Jvm.Cond.static ({ cls := "jdk/internal/util/ArraysSupport", name := "mismatch", desc := "([B[BI)I" } : Jvm.MethodName)) ∈ lw_all := lw_g (lw_at lw_m4 142 rfl) rfl
theorem q934 : (Jvm.Cond.code ({ cls := "jdk/internal/util/ArraysSupport", name := "mismatch", desc := "([B[BI)I" } : Jvm.MethodName) prog_56_method_13_code (4 : Nat) (Option.some Jvm.ClassFile.FieldType.int)) ∈ lw_all := lw_g (lw_at lw_m4 143 rfl) rfl
theorem q935 : (Jvm.Cond.fieldLink "jdk/internal/util/ArraysSupport" (126 : Nat) "jdk/internal/misc/Unsafe" "ARRAY_BYTE_BASE_OFFSET" "I") ∈ lw_all := lw_g (lw_at lw_m4 144 rfl) rfl
theorem q937 : (Jvm.Cond.fieldLink "jdk/internal/util/ArraysSupport" (129 : Nat) "jdk/internal/util/ArraysSupport" "LOG2_ARRAY_BYTE_INDEX_SCALE" "I") ∈ lw_all := lw_g (lw_at lw_m4 146 rfl) rfl
theorem q938 : (Jvm.Cond.laysStatic "jdk/internal/util/ArraysSupport" "LOG2_ARRAY_BYTE_INDEX_SCALE" "I") ∈ lw_tbl := lw_at lw_m4 147 rfl
theorem q939 : (Jvm.Cond.methodLink "jdk/internal/util/ArraysSupport" (122 : Nat) ({ cls := "jdk/internal/util/ArraysSupport", name := "vectorizedMismatch", desc := "(Ljava/lang/Object;JLjava/lang/Object;JII)I" } : Jvm.MethodName)) ∈ lw_all := lw_g (lw_at lw_m4 148 rfl) rfl
theorem q940 : (Jvm.Cond.static ({ cls := "jdk/internal/util/ArraysSupport", name := "vectorizedMismatch", desc := "(Ljava/lang/Object;JLjava/lang/Object;JII)I" } : Jvm.MethodName)) ∈ lw_all := lw_g (lw_at lw_m4 149 rfl) rfl
theorem q941 : (Jvm.Cond.code ({ cls := "jdk/internal/util/ArraysSupport", name := "vectorizedMismatch", desc := "(Ljava/lang/Object;JLjava/lang/Object;JII)I" } : Jvm.MethodName) prog_56_method_3_code (19 : Nat) (Option.some Jvm.ClassFile.FieldType.int)) ∈ lw_all := lw_g (lw_at lw_m4 150 rfl) rfl
theorem q942 : (Jvm.Cond.fieldLink "jdk/internal/util/ArraysSupport" (20 : Nat) "jdk/internal/util/ArraysSupport" "LOG2_ARRAY_LONG_INDEX_SCALE" "I") ∈ lw_all := lw_g (lw_at lw_m4 151 rfl) rfl
theorem q943 : (Jvm.Cond.laysStatic "jdk/internal/util/ArraysSupport" "LOG2_ARRAY_LONG_INDEX_SCALE" "I") ∈ lw_tbl := lw_at lw_m4 152 rfl
theorem q944 : (Jvm.Cond.fieldLink "jdk/internal/util/ArraysSupport" (26 : Nat) "jdk/internal/util/ArraysSupport" "U" "Ljdk/internal/misc/Unsafe;") ∈ lw_all := lw_g (lw_at lw_m4 153 rfl) rfl
theorem q945 : (Jvm.Cond.laysStatic "jdk/internal/util/ArraysSupport" "U" "Ljdk/internal/misc/Unsafe;") ∈ lw_tbl := lw_at lw_m4 154 rfl
theorem q946 : (Jvm.Cond.methodLink "jdk/internal/util/ArraysSupport" (30 : Nat) ({ cls := "jdk/internal/misc/Unsafe", name := "getLongUnaligned", desc := "(Ljava/lang/Object;J)J" } : Jvm.MethodName)) ∈ lw_all := lw_g (lw_at lw_m4 155 rfl) rfl
theorem q998 : (Jvm.Cond.fieldLink "jdk/internal/util/ArraysSupport" (36 : Nat) "jdk/internal/util/ArraysSupport" "BIG_ENDIAN" "Z") ∈ lw_all := lw_g (lw_at lw_m4 207 rfl) rfl
theorem q999 : (Jvm.Cond.laysStatic "jdk/internal/util/ArraysSupport" "BIG_ENDIAN" "Z") ∈ lw_tbl := lw_at lw_m4 208 rfl
theorem q1000 : (Jvm.Cond.methodLink "jdk/internal/util/ArraysSupport" (40 : Nat) ({ cls := "java/lang/Long", name := "numberOfLeadingZeros", desc := "(J)I" } : Jvm.MethodName)) ∈ lw_all := lw_g (lw_at lw_m4 209 rfl) rfl
theorem q1007 : (Jvm.Cond.fieldLink "jdk/internal/util/ArraysSupport" (46 : Nat) "jdk/internal/util/ArraysSupport" "LOG2_BYTE_BIT_SIZE" "I") ∈ lw_all := lw_g (lw_at lw_m4 216 rfl) rfl
theorem q1008 : (Jvm.Cond.laysStatic "jdk/internal/util/ArraysSupport" "LOG2_BYTE_BIT_SIZE" "I") ∈ lw_tbl := lw_at lw_m4 217 rfl
theorem q1009 : (Jvm.Cond.methodLink "jdk/internal/util/ArraysSupport" (49 : Nat) ({ cls := "java/lang/Long", name := "numberOfTrailingZeros", desc := "(J)I" } : Jvm.MethodName)) ∈ lw_all := lw_g (lw_at lw_m4 218 rfl) rfl
theorem q1015 : (Jvm.Cond.fieldLink "jdk/internal/util/ArraysSupport" (51 : Nat) "jdk/internal/util/ArraysSupport" "LOG2_ARRAY_INT_INDEX_SCALE" "I") ∈ lw_all := lw_g (lw_at lw_m4 224 rfl) rfl
theorem q1016 : (Jvm.Cond.laysStatic "jdk/internal/util/ArraysSupport" "LOG2_ARRAY_INT_INDEX_SCALE" "I") ∈ lw_tbl := lw_at lw_m4 225 rfl
theorem q1017 : (Jvm.Cond.methodLink "jdk/internal/util/ArraysSupport" (54 : Nat) ({ cls := "jdk/internal/misc/Unsafe", name := "getIntUnaligned", desc := "(Ljava/lang/Object;J)I" } : Jvm.MethodName)) ∈ lw_all := lw_g (lw_at lw_m4 226 rfl) rfl
theorem q1034 : (Jvm.Cond.methodLink "jdk/internal/util/ArraysSupport" (58 : Nat) ({ cls := "java/lang/Integer", name := "numberOfLeadingZeros", desc := "(I)I" } : Jvm.MethodName)) ∈ lw_all := lw_g (lw_at lw_m5 3 rfl) rfl
theorem q1035 : (Jvm.Cond.methodLink "jdk/internal/util/ArraysSupport" (11 : Nat) ({ cls := "java/lang/Integer", name := "numberOfTrailingZeros", desc := "(I)I" } : Jvm.MethodName)) ∈ lw_all := lw_g (lw_at lw_m5 4 rfl) rfl

/-! java/util/Arrays -/
set_option maxRecDepth 100000
def RJ20 : String := "java/util/Arrays"
abbrev cJ20_copyOf : ByteArray := prog_41_method_121_code
def yJ20_copyOf : MethodName := ⟨RJ20, "copyOf", "([BI)[B"⟩
def dkwJ20_copyOf_1 : List UInt8 := [27, 184, 1, 48, 184, 0, 150, 44, 176]
abbrev dktJ20_copyOf_1 : List UInt8 := dkwJ20_copyOf_1 ++ []
def dkwJ20_copyOf_0 : List UInt8 := [27, 42, 190, 160, 0, 11, 42, 182, 1, 54, 192, 1, 55, 176, 27, 188, 8, 77, 42, 3, 44, 3, 42, 190]
abbrev dktJ20_copyOf_0 : List UInt8 := dkwJ20_copyOf_0 ++ dktJ20_copyOf_1
theorem dksJ20_copyOf_0 : cJ20_copyOf.data.toList.drop 0 = dktJ20_copyOf_0 := by decide +kernel
theorem dksJ20_copyOf_1 : cJ20_copyOf.data.toList.drop 24 = dktJ20_copyOf_1 := dk_seg dksJ20_copyOf_0 24 rfl rfl
theorem dJ20_copyOf_0 : decode cJ20_copyOf 0 = .ok (.iload_n 1, 1) := dk_27 (dk_at dksJ20_copyOf_0 0 rfl rfl)
theorem dJ20_copyOf_1 : decode cJ20_copyOf 1 = .ok (.aload_n 0, 1) := dk_42 (dk_at dksJ20_copyOf_0 1 rfl rfl)
theorem dJ20_copyOf_2 : decode cJ20_copyOf 2 = .ok (.arraylength, 1) := dk_190 (dk_at dksJ20_copyOf_0 2 rfl rfl)
theorem dJ20_copyOf_3 : decode cJ20_copyOf 3 = .ok (.if_icmp .ne 11, 3) := dk_160 0 11 (dk_at dksJ20_copyOf_0 3 rfl rfl)
theorem dJ20_copyOf_6 : decode cJ20_copyOf 6 = .ok (.aload_n 0, 1) := dk_42 (dk_at dksJ20_copyOf_0 6 rfl rfl)
theorem dJ20_copyOf_7 : decode cJ20_copyOf 7 = .ok (.invokevirtual 310, 3) := dk_182 1 54 (dk_at dksJ20_copyOf_0 7 rfl rfl)
theorem dJ20_copyOf_10 : decode cJ20_copyOf 10 = .ok (.checkcast 311, 3) := dk_192 1 55 (dk_at dksJ20_copyOf_0 10 rfl rfl)
theorem dJ20_copyOf_13 : decode cJ20_copyOf 13 = .ok (.areturn, 1) := dk_176 (dk_at dksJ20_copyOf_0 13 rfl rfl)
theorem dJ20_copyOf_14 : decode cJ20_copyOf 14 = .ok (.iload_n 1, 1) := dk_27 (dk_at dksJ20_copyOf_0 14 rfl rfl)
theorem dJ20_copyOf_15 : decode cJ20_copyOf 15 = .ok (.newarray .byte, 2) := dk_188_8 (dk_at dksJ20_copyOf_0 15 rfl rfl)
theorem dJ20_copyOf_17 : decode cJ20_copyOf 17 = .ok (.astore_n 2, 1) := dk_77 (dk_at dksJ20_copyOf_0 17 rfl rfl)
theorem dJ20_copyOf_18 : decode cJ20_copyOf 18 = .ok (.aload_n 0, 1) := dk_42 (dk_at dksJ20_copyOf_0 18 rfl rfl)
theorem dJ20_copyOf_19 : decode cJ20_copyOf 19 = .ok (.iconst 0, 1) := dk_3 (dk_at dksJ20_copyOf_0 19 rfl rfl)
theorem dJ20_copyOf_20 : decode cJ20_copyOf 20 = .ok (.aload_n 2, 1) := dk_44 (dk_at dksJ20_copyOf_0 20 rfl rfl)
theorem dJ20_copyOf_21 : decode cJ20_copyOf 21 = .ok (.iconst 0, 1) := dk_3 (dk_at dksJ20_copyOf_0 21 rfl rfl)
theorem dJ20_copyOf_22 : decode cJ20_copyOf 22 = .ok (.aload_n 0, 1) := dk_42 (dk_at dksJ20_copyOf_0 22 rfl rfl)
theorem dJ20_copyOf_23 : decode cJ20_copyOf 23 = .ok (.arraylength, 1) := dk_190 (dk_at dksJ20_copyOf_0 23 rfl rfl)
theorem dJ20_copyOf_24 : decode cJ20_copyOf 24 = .ok (.iload_n 1, 1) := dk_27 (dk_at dksJ20_copyOf_1 0 rfl rfl)
theorem dJ20_copyOf_25 : decode cJ20_copyOf 25 = .ok (.invokestatic 304, 3) := dk_184 1 48 (dk_at dksJ20_copyOf_1 1 rfl rfl)
theorem dJ20_copyOf_28 : decode cJ20_copyOf 28 = .ok (.invokestatic 150, 3) := dk_184 0 150 (dk_at dksJ20_copyOf_1 4 rfl rfl)
theorem dJ20_copyOf_31 : decode cJ20_copyOf 31 = .ok (.aload_n 2, 1) := dk_44 (dk_at dksJ20_copyOf_1 7 rfl rfl)
theorem dJ20_copyOf_32 : decode cJ20_copyOf 32 = .ok (.areturn, 1) := dk_176 (dk_at dksJ20_copyOf_1 8 rfl rfl)
abbrev cJ20_fill : ByteArray := prog_41_method_110_code
def yJ20_fill : MethodName := ⟨RJ20, "fill", "([BIIB)V"⟩
def dkwJ20_fill_1 : List UInt8 := [167, 255, 242, 177]
abbrev dktJ20_fill_1 : List UInt8 := dkwJ20_fill_1 ++ []
def dkwJ20_fill_0 : List UInt8 := [42, 190, 27, 28, 184, 0, 13, 27, 54, 4, 21, 4, 28, 162, 0, 14, 42, 21, 4, 29, 84, 132, 4, 1]
abbrev dktJ20_fill_0 : List UInt8 := dkwJ20_fill_0 ++ dktJ20_fill_1
theorem dksJ20_fill_0 : cJ20_fill.data.toList.drop 0 = dktJ20_fill_0 := by decide +kernel
theorem dksJ20_fill_1 : cJ20_fill.data.toList.drop 24 = dktJ20_fill_1 := dk_seg dksJ20_fill_0 24 rfl rfl
theorem dJ20_fill_0 : decode cJ20_fill 0 = .ok (.aload_n 0, 1) := dk_42 (dk_at dksJ20_fill_0 0 rfl rfl)
theorem dJ20_fill_1 : decode cJ20_fill 1 = .ok (.arraylength, 1) := dk_190 (dk_at dksJ20_fill_0 1 rfl rfl)
theorem dJ20_fill_2 : decode cJ20_fill 2 = .ok (.iload_n 1, 1) := dk_27 (dk_at dksJ20_fill_0 2 rfl rfl)
theorem dJ20_fill_3 : decode cJ20_fill 3 = .ok (.iload_n 2, 1) := dk_28 (dk_at dksJ20_fill_0 3 rfl rfl)
theorem dJ20_fill_4 : decode cJ20_fill 4 = .ok (.invokestatic 13, 3) := dk_184 0 13 (dk_at dksJ20_fill_0 4 rfl rfl)
theorem dJ20_fill_7 : decode cJ20_fill 7 = .ok (.iload_n 1, 1) := dk_27 (dk_at dksJ20_fill_0 7 rfl rfl)
theorem dJ20_fill_8 : decode cJ20_fill 8 = .ok (.istore 4, 2) := dk_54 4 (dk_at dksJ20_fill_0 8 rfl rfl)
theorem dJ20_fill_10 : decode cJ20_fill 10 = .ok (.iload 4, 2) := dk_21 4 (dk_at dksJ20_fill_0 10 rfl rfl)
theorem dJ20_fill_12 : decode cJ20_fill 12 = .ok (.iload_n 2, 1) := dk_28 (dk_at dksJ20_fill_0 12 rfl rfl)
theorem dJ20_fill_13 : decode cJ20_fill 13 = .ok (.if_icmp .ge 14, 3) := dk_162 0 14 (dk_at dksJ20_fill_0 13 rfl rfl)
theorem dJ20_fill_16 : decode cJ20_fill 16 = .ok (.aload_n 0, 1) := dk_42 (dk_at dksJ20_fill_0 16 rfl rfl)
theorem dJ20_fill_17 : decode cJ20_fill 17 = .ok (.iload 4, 2) := dk_21 4 (dk_at dksJ20_fill_0 17 rfl rfl)
theorem dJ20_fill_19 : decode cJ20_fill 19 = .ok (.iload_n 3, 1) := dk_29 (dk_at dksJ20_fill_0 19 rfl rfl)
theorem dJ20_fill_20 : decode cJ20_fill 20 = .ok (.bastore, 1) := dk_84 (dk_at dksJ20_fill_0 20 rfl rfl)
theorem dJ20_fill_21 : decode cJ20_fill 21 = .ok (.iinc 4 1, 3) := dk_132 4 1 (dk_at dksJ20_fill_0 21 rfl rfl)
theorem dJ20_fill_24 : decode cJ20_fill 24 = .ok (.goto (-14), 3) := dk_167 255 242 (dk_at dksJ20_fill_1 0 rfl rfl)
theorem dJ20_fill_27 : decode cJ20_fill 27 = .ok (.return_, 1) := dk_177 (dk_at dksJ20_fill_1 3 rfl rfl)
abbrev cJ20_rangeCheck : ByteArray := prog_41_method_30_code
def yJ20_rangeCheck : MethodName := ⟨RJ20, "rangeCheck", "(III)V"⟩
def dkwJ20_rangeCheck_3 : List UInt8 := [183, 0, 70, 191, 177]
abbrev dktJ20_rangeCheck_3 : List UInt8 := dkwJ20_rangeCheck_3 ++ []
def dkwJ20_rangeCheck_2 : List UInt8 := [27, 156, 0, 12, 187, 0, 68, 89, 27, 183, 0, 70, 191, 28, 26, 164, 0, 12, 187, 0, 68, 89, 28]
abbrev dktJ20_rangeCheck_2 : List UInt8 := dkwJ20_rangeCheck_2 ++ dktJ20_rangeCheck_3
def dkwJ20_rangeCheck_1 : List UInt8 := [182, 0, 54, 18, 57, 182, 0, 50, 28, 182, 0, 54, 18, 59, 182, 0, 50, 182, 0, 61, 183, 0, 65, 191]
abbrev dktJ20_rangeCheck_1 : List UInt8 := dkwJ20_rangeCheck_1 ++ dktJ20_rangeCheck_2
def dkwJ20_rangeCheck_0 : List UInt8 := [27, 28, 164, 0, 44, 187, 0, 43, 89, 187, 0, 45, 89, 183, 0, 47, 18, 48, 182, 0, 50, 27]
abbrev dktJ20_rangeCheck_0 : List UInt8 := dkwJ20_rangeCheck_0 ++ dktJ20_rangeCheck_1
theorem dksJ20_rangeCheck_0 : cJ20_rangeCheck.data.toList.drop 0 = dktJ20_rangeCheck_0 := by decide +kernel
theorem dksJ20_rangeCheck_1 : cJ20_rangeCheck.data.toList.drop 22 = dktJ20_rangeCheck_1 := dk_seg dksJ20_rangeCheck_0 22 rfl rfl
theorem dksJ20_rangeCheck_2 : cJ20_rangeCheck.data.toList.drop 46 = dktJ20_rangeCheck_2 := dk_seg dksJ20_rangeCheck_1 24 rfl rfl
theorem dksJ20_rangeCheck_3 : cJ20_rangeCheck.data.toList.drop 69 = dktJ20_rangeCheck_3 := dk_seg dksJ20_rangeCheck_2 23 rfl rfl
theorem dJ20_rangeCheck_0 : decode cJ20_rangeCheck 0 = .ok (.iload_n 1, 1) := dk_27 (dk_at dksJ20_rangeCheck_0 0 rfl rfl)
theorem dJ20_rangeCheck_1 : decode cJ20_rangeCheck 1 = .ok (.iload_n 2, 1) := dk_28 (dk_at dksJ20_rangeCheck_0 1 rfl rfl)
theorem dJ20_rangeCheck_2 : decode cJ20_rangeCheck 2 = .ok (.if_icmp .le 44, 3) := dk_164 0 44 (dk_at dksJ20_rangeCheck_0 2 rfl rfl)
theorem dJ20_rangeCheck_5 : decode cJ20_rangeCheck 5 = .ok (.new 43, 3) := dk_187 0 43 (dk_at dksJ20_rangeCheck_0 5 rfl rfl)
theorem dJ20_rangeCheck_8 : decode cJ20_rangeCheck 8 = .ok (.dup, 1) := dk_89 (dk_at dksJ20_rangeCheck_0 8 rfl rfl)
theorem dJ20_rangeCheck_9 : decode cJ20_rangeCheck 9 = .ok (.new 45, 3) := dk_187 0 45 (dk_at dksJ20_rangeCheck_0 9 rfl rfl)
theorem dJ20_rangeCheck_12 : decode cJ20_rangeCheck 12 = .ok (.dup, 1) := dk_89 (dk_at dksJ20_rangeCheck_0 12 rfl rfl)
theorem dJ20_rangeCheck_13 : decode cJ20_rangeCheck 13 = .ok (.invokespecial 47, 3) := dk_183 0 47 (dk_at dksJ20_rangeCheck_0 13 rfl rfl)
theorem dJ20_rangeCheck_16 : decode cJ20_rangeCheck 16 = .ok (.ldc 48, 2) := dk_18 48 (dk_at dksJ20_rangeCheck_0 16 rfl rfl)
theorem dJ20_rangeCheck_18 : decode cJ20_rangeCheck 18 = .ok (.invokevirtual 50, 3) := dk_182 0 50 (dk_at dksJ20_rangeCheck_0 18 rfl rfl)
theorem dJ20_rangeCheck_21 : decode cJ20_rangeCheck 21 = .ok (.iload_n 1, 1) := dk_27 (dk_at dksJ20_rangeCheck_0 21 rfl rfl)
theorem dJ20_rangeCheck_22 : decode cJ20_rangeCheck 22 = .ok (.invokevirtual 54, 3) := dk_182 0 54 (dk_at dksJ20_rangeCheck_1 0 rfl rfl)
theorem dJ20_rangeCheck_25 : decode cJ20_rangeCheck 25 = .ok (.ldc 57, 2) := dk_18 57 (dk_at dksJ20_rangeCheck_1 3 rfl rfl)
theorem dJ20_rangeCheck_27 : decode cJ20_rangeCheck 27 = .ok (.invokevirtual 50, 3) := dk_182 0 50 (dk_at dksJ20_rangeCheck_1 5 rfl rfl)
theorem dJ20_rangeCheck_30 : decode cJ20_rangeCheck 30 = .ok (.iload_n 2, 1) := dk_28 (dk_at dksJ20_rangeCheck_1 8 rfl rfl)
theorem dJ20_rangeCheck_31 : decode cJ20_rangeCheck 31 = .ok (.invokevirtual 54, 3) := dk_182 0 54 (dk_at dksJ20_rangeCheck_1 9 rfl rfl)
theorem dJ20_rangeCheck_34 : decode cJ20_rangeCheck 34 = .ok (.ldc 59, 2) := dk_18 59 (dk_at dksJ20_rangeCheck_1 12 rfl rfl)
theorem dJ20_rangeCheck_36 : decode cJ20_rangeCheck 36 = .ok (.invokevirtual 50, 3) := dk_182 0 50 (dk_at dksJ20_rangeCheck_1 14 rfl rfl)
theorem dJ20_rangeCheck_39 : decode cJ20_rangeCheck 39 = .ok (.invokevirtual 61, 3) := dk_182 0 61 (dk_at dksJ20_rangeCheck_1 17 rfl rfl)
theorem dJ20_rangeCheck_42 : decode cJ20_rangeCheck 42 = .ok (.invokespecial 65, 3) := dk_183 0 65 (dk_at dksJ20_rangeCheck_1 20 rfl rfl)
theorem dJ20_rangeCheck_45 : decode cJ20_rangeCheck 45 = .ok (.athrow, 1) := dk_191 (dk_at dksJ20_rangeCheck_1 23 rfl rfl)
theorem dJ20_rangeCheck_46 : decode cJ20_rangeCheck 46 = .ok (.iload_n 1, 1) := dk_27 (dk_at dksJ20_rangeCheck_2 0 rfl rfl)
theorem dJ20_rangeCheck_47 : decode cJ20_rangeCheck 47 = .ok (.ifCond .ge 12, 3) := dk_156 0 12 (dk_at dksJ20_rangeCheck_2 1 rfl rfl)
theorem dJ20_rangeCheck_50 : decode cJ20_rangeCheck 50 = .ok (.new 68, 3) := dk_187 0 68 (dk_at dksJ20_rangeCheck_2 4 rfl rfl)
theorem dJ20_rangeCheck_53 : decode cJ20_rangeCheck 53 = .ok (.dup, 1) := dk_89 (dk_at dksJ20_rangeCheck_2 7 rfl rfl)
theorem dJ20_rangeCheck_54 : decode cJ20_rangeCheck 54 = .ok (.iload_n 1, 1) := dk_27 (dk_at dksJ20_rangeCheck_2 8 rfl rfl)
theorem dJ20_rangeCheck_55 : decode cJ20_rangeCheck 55 = .ok (.invokespecial 70, 3) := dk_183 0 70 (dk_at dksJ20_rangeCheck_2 9 rfl rfl)
theorem dJ20_rangeCheck_58 : decode cJ20_rangeCheck 58 = .ok (.athrow, 1) := dk_191 (dk_at dksJ20_rangeCheck_2 12 rfl rfl)
theorem dJ20_rangeCheck_59 : decode cJ20_rangeCheck 59 = .ok (.iload_n 2, 1) := dk_28 (dk_at dksJ20_rangeCheck_2 13 rfl rfl)
theorem dJ20_rangeCheck_60 : decode cJ20_rangeCheck 60 = .ok (.iload_n 0, 1) := dk_26 (dk_at dksJ20_rangeCheck_2 14 rfl rfl)
theorem dJ20_rangeCheck_61 : decode cJ20_rangeCheck 61 = .ok (.if_icmp .le 12, 3) := dk_164 0 12 (dk_at dksJ20_rangeCheck_2 15 rfl rfl)
theorem dJ20_rangeCheck_64 : decode cJ20_rangeCheck 64 = .ok (.new 68, 3) := dk_187 0 68 (dk_at dksJ20_rangeCheck_2 18 rfl rfl)
theorem dJ20_rangeCheck_67 : decode cJ20_rangeCheck 67 = .ok (.dup, 1) := dk_89 (dk_at dksJ20_rangeCheck_2 21 rfl rfl)
theorem dJ20_rangeCheck_68 : decode cJ20_rangeCheck 68 = .ok (.iload_n 2, 1) := dk_28 (dk_at dksJ20_rangeCheck_2 22 rfl rfl)
theorem dJ20_rangeCheck_69 : decode cJ20_rangeCheck 69 = .ok (.invokespecial 70, 3) := dk_183 0 70 (dk_at dksJ20_rangeCheck_3 0 rfl rfl)
theorem dJ20_rangeCheck_72 : decode cJ20_rangeCheck 72 = .ok (.athrow, 1) := dk_191 (dk_at dksJ20_rangeCheck_3 3 rfl rfl)
theorem dJ20_rangeCheck_73 : decode cJ20_rangeCheck 73 = .ok (.return_, 1) := dk_177 (dk_at dksJ20_rangeCheck_3 4 rfl rfl)
abbrev cJ20_copyOf_2 : ByteArray := prog_41_method_119_code
def yJ20_copyOf_2 : MethodName := ⟨RJ20, "copyOf", "([Ljava/lang/Object;I)[Ljava/lang/Object;"⟩
def dkwJ20_copyOf_2_0 : List UInt8 := [42, 27, 42, 182, 0, 86, 184, 1, 44, 176]
abbrev dktJ20_copyOf_2_0 : List UInt8 := dkwJ20_copyOf_2_0 ++ []
theorem dksJ20_copyOf_2_0 : cJ20_copyOf_2.data.toList.drop 0 = dktJ20_copyOf_2_0 := by decide +kernel
theorem dJ20_copyOf_2_0 : decode cJ20_copyOf_2 0 = .ok (.aload_n 0, 1) := dk_42 (dk_at dksJ20_copyOf_2_0 0 rfl rfl)
theorem dJ20_copyOf_2_1 : decode cJ20_copyOf_2 1 = .ok (.iload_n 1, 1) := dk_27 (dk_at dksJ20_copyOf_2_0 1 rfl rfl)
theorem dJ20_copyOf_2_2 : decode cJ20_copyOf_2 2 = .ok (.aload_n 0, 1) := dk_42 (dk_at dksJ20_copyOf_2_0 2 rfl rfl)
theorem dJ20_copyOf_2_3 : decode cJ20_copyOf_2 3 = .ok (.invokevirtual 86, 3) := dk_182 0 86 (dk_at dksJ20_copyOf_2_0 3 rfl rfl)
theorem dJ20_copyOf_2_6 : decode cJ20_copyOf_2 6 = .ok (.invokestatic 300, 3) := dk_184 1 44 (dk_at dksJ20_copyOf_2_0 6 rfl rfl)
theorem dJ20_copyOf_2_9 : decode cJ20_copyOf_2 9 = .ok (.areturn, 1) := dk_176 (dk_at dksJ20_copyOf_2_0 9 rfl rfl)
abbrev cJ20_copyOf_3 : ByteArray := prog_41_method_120_code
def yJ20_copyOf_3 : MethodName := ⟨RJ20, "copyOf", "([Ljava/lang/Object;ILjava/lang/Class;)[Ljava/lang/Object;"⟩
def dkwJ20_copyOf_3_1 : List UInt8 := [78, 42, 3, 45, 3, 42, 190, 27, 184, 1, 48, 184, 0, 150, 45, 176]
abbrev dktJ20_copyOf_3_1 : List UInt8 := dkwJ20_copyOf_3_1 ++ []
def dkwJ20_copyOf_3_0 : List UInt8 := [44, 18, 110, 166, 0, 10, 27, 189, 0, 2, 167, 0, 14, 44, 182, 0, 90, 27, 184, 0, 95, 192, 0, 110]
abbrev dktJ20_copyOf_3_0 : List UInt8 := dkwJ20_copyOf_3_0 ++ dktJ20_copyOf_3_1
theorem dksJ20_copyOf_3_0 : cJ20_copyOf_3.data.toList.drop 0 = dktJ20_copyOf_3_0 := by decide +kernel
theorem dksJ20_copyOf_3_1 : cJ20_copyOf_3.data.toList.drop 24 = dktJ20_copyOf_3_1 := dk_seg dksJ20_copyOf_3_0 24 rfl rfl
theorem dJ20_copyOf_3_0 : decode cJ20_copyOf_3 0 = .ok (.aload_n 2, 1) := dk_44 (dk_at dksJ20_copyOf_3_0 0 rfl rfl)
theorem dJ20_copyOf_3_1 : decode cJ20_copyOf_3 1 = .ok (.ldc 110, 2) := dk_18 110 (dk_at dksJ20_copyOf_3_0 1 rfl rfl)
theorem dJ20_copyOf_3_3 : decode cJ20_copyOf_3 3 = .ok (.if_acmp .ne 10, 3) := dk_166 0 10 (dk_at dksJ20_copyOf_3_0 3 rfl rfl)
theorem dJ20_copyOf_3_6 : decode cJ20_copyOf_3 6 = .ok (.iload_n 1, 1) := dk_27 (dk_at dksJ20_copyOf_3_0 6 rfl rfl)
theorem dJ20_copyOf_3_7 : decode cJ20_copyOf_3 7 = .ok (.anewarray 2, 3) := dk_189 0 2 (dk_at dksJ20_copyOf_3_0 7 rfl rfl)
theorem dJ20_copyOf_3_10 : decode cJ20_copyOf_3 10 = .ok (.goto 14, 3) := dk_167 0 14 (dk_at dksJ20_copyOf_3_0 10 rfl rfl)
theorem dJ20_copyOf_3_13 : decode cJ20_copyOf_3 13 = .ok (.aload_n 2, 1) := dk_44 (dk_at dksJ20_copyOf_3_0 13 rfl rfl)
theorem dJ20_copyOf_3_14 : decode cJ20_copyOf_3 14 = .ok (.invokevirtual 90, 3) := dk_182 0 90 (dk_at dksJ20_copyOf_3_0 14 rfl rfl)
theorem dJ20_copyOf_3_17 : decode cJ20_copyOf_3 17 = .ok (.iload_n 1, 1) := dk_27 (dk_at dksJ20_copyOf_3_0 17 rfl rfl)
theorem dJ20_copyOf_3_18 : decode cJ20_copyOf_3 18 = .ok (.invokestatic 95, 3) := dk_184 0 95 (dk_at dksJ20_copyOf_3_0 18 rfl rfl)
theorem dJ20_copyOf_3_21 : decode cJ20_copyOf_3 21 = .ok (.checkcast 110, 3) := dk_192 0 110 (dk_at dksJ20_copyOf_3_0 21 rfl rfl)
theorem dJ20_copyOf_3_24 : decode cJ20_copyOf_3 24 = .ok (.astore_n 3, 1) := dk_78 (dk_at dksJ20_copyOf_3_1 0 rfl rfl)
theorem dJ20_copyOf_3_25 : decode cJ20_copyOf_3 25 = .ok (.aload_n 0, 1) := dk_42 (dk_at dksJ20_copyOf_3_1 1 rfl rfl)
theorem dJ20_copyOf_3_26 : decode cJ20_copyOf_3 26 = .ok (.iconst 0, 1) := dk_3 (dk_at dksJ20_copyOf_3_1 2 rfl rfl)
theorem dJ20_copyOf_3_27 : decode cJ20_copyOf_3 27 = .ok (.aload_n 3, 1) := dk_45 (dk_at dksJ20_copyOf_3_1 3 rfl rfl)
theorem dJ20_copyOf_3_28 : decode cJ20_copyOf_3 28 = .ok (.iconst 0, 1) := dk_3 (dk_at dksJ20_copyOf_3_1 4 rfl rfl)
theorem dJ20_copyOf_3_29 : decode cJ20_copyOf_3 29 = .ok (.aload_n 0, 1) := dk_42 (dk_at dksJ20_copyOf_3_1 5 rfl rfl)
theorem dJ20_copyOf_3_30 : decode cJ20_copyOf_3 30 = .ok (.arraylength, 1) := dk_190 (dk_at dksJ20_copyOf_3_1 6 rfl rfl)
theorem dJ20_copyOf_3_31 : decode cJ20_copyOf_3 31 = .ok (.iload_n 1, 1) := dk_27 (dk_at dksJ20_copyOf_3_1 7 rfl rfl)
theorem dJ20_copyOf_3_32 : decode cJ20_copyOf_3 32 = .ok (.invokestatic 304, 3) := dk_184 1 48 (dk_at dksJ20_copyOf_3_1 8 rfl rfl)
theorem dJ20_copyOf_3_35 : decode cJ20_copyOf_3 35 = .ok (.invokestatic 150, 3) := dk_184 0 150 (dk_at dksJ20_copyOf_3_1 11 rfl rfl)
theorem dJ20_copyOf_3_38 : decode cJ20_copyOf_3 38 = .ok (.aload_n 3, 1) := dk_45 (dk_at dksJ20_copyOf_3_1 14 rfl rfl)
theorem dJ20_copyOf_3_39 : decode cJ20_copyOf_3 39 = .ok (.areturn, 1) := dk_176 (dk_at dksJ20_copyOf_3_1 15 rfl rfl)
theorem q97 : (Jvm.Cond.initialized "java/util/Arrays") ∈ lw_all := lw_g (lw_at lw_m1 26 rfl) rfl
theorem q343 : (Jvm.Cond.static ({ cls := "java/util/Arrays", name := "copyOf", desc := "([BI)[B" } : Jvm.MethodName)) ∈ lw_all := lw_g (lw_at lw_m2 32 rfl) rfl
theorem q344 : (Jvm.Cond.code ({ cls := "java/util/Arrays", name := "copyOf", desc := "([BI)[B" } : Jvm.MethodName) prog_41_method_121_code (3 : Nat) (Option.some (Jvm.ClassFile.FieldType.array Jvm.ClassFile.FieldType.byte))) ∈ lw_all := lw_g (lw_at lw_m2 33 rfl) rfl
theorem q345 : (Jvm.Cond.methodLink "java/util/Arrays" (310 : Nat) ({ cls := "[B", name := "clone", desc := "()Ljava/lang/Object;" } : Jvm.MethodName)) ∈ lw_all := lw_g (lw_at lw_m2 34 rfl) rfl
theorem q351 : (Jvm.Cond.classLink "java/util/Arrays" (311 : Nat) "[B") ∈ lw_all := lw_g (lw_at lw_m2 40 rfl) rfl
theorem q352 : (Jvm.Cond.methodLink "java/util/Arrays" (304 : Nat) ({ cls := "java/lang/Math", name := "min", desc := "(II)I" } : Jvm.MethodName)) ∈ lw_all := lw_g (lw_at lw_m2 41 rfl) rfl
theorem q355 : (Jvm.Cond.methodLink "java/util/Arrays" (150 : Nat) ({ cls := "java/lang/System", name := "arraycopy", desc := "(Ljava/lang/Object;ILjava/lang/Object;II)V" } : Jvm.MethodName)) ∈ lw_all := lw_g (lw_at lw_m2 44 rfl) rfl
theorem q478 : (Jvm.Cond.static ({ cls := "java/util/Arrays", name := "copyOfRange", desc := "([BII)[B" } : Jvm.MethodName)) ∈ lw_all := lw_g (lw_at lw_m2 167 rfl) rfl
theorem q479 : (Jvm.Cond.code ({ cls := "java/util/Arrays", name := "copyOfRange", desc := "([BII)[B" } : Jvm.MethodName) prog_41_method_132_code (3 : Nat) (Option.some (Jvm.ClassFile.FieldType.array Jvm.ClassFile.FieldType.byte))) ∈ lw_all := lw_g (lw_at lw_m2 168 rfl) rfl
theorem q480 : (Jvm.Cond.methodLink "java/util/Arrays" (339 : Nat) ({ cls := "java/util/Arrays", name := "copyOfRangeByte", desc := "([BII)[B" } : Jvm.MethodName)) ∈ lw_all := lw_g (lw_at lw_m2 169 rfl) rfl
theorem q481 : (Jvm.Cond.static ({ cls := "java/util/Arrays", name := "copyOfRangeByte", desc := "([BII)[B" } : Jvm.MethodName)) ∈ lw_all := lw_g (lw_at lw_m2 170 rfl) rfl
theorem q482 : (Jvm.Cond.code ({ cls := "java/util/Arrays", name := "copyOfRangeByte", desc := "([BII)[B" } : Jvm.MethodName) prog_41_method_133_code (5 : Nat) (Option.some (Jvm.ClassFile.FieldType.array Jvm.ClassFile.FieldType.byte))) ∈ lw_all := lw_g (lw_at lw_m2 171 rfl) rfl
theorem q483 : (Jvm.Cond.methodLink "java/util/Arrays" (343 : Nat) ({ cls := "java/util/Arrays", name := "checkLength", desc := "(II)V" } : Jvm.MethodName)) ∈ lw_all := lw_g (lw_at lw_m2 172 rfl) rfl
theorem q484 : (Jvm.Cond.static ({ cls := "java/util/Arrays", name := "checkLength", desc := "(II)V" } : Jvm.MethodName)) ∈ lw_all := lw_g (lw_at lw_m2 173 rfl) rfl
theorem q485 : (Jvm.Cond.code ({ cls := "java/util/Arrays", name := "checkLength", desc := "(II)V" } : Jvm.MethodName) prog_41_method_131_code (2 : Nat) (Option.none : Option Jvm.ClassFile.FieldType)) ∈ lw_all := lw_g (lw_at lw_m2 174 rfl) rfl
theorem q486 : (Jvm.Cond.classLink "java/util/Arrays" (43 : Nat) "java/lang/IllegalArgumentException") ∈ lw_all := lw_g (lw_at lw_m2 175 rfl) rfl
theorem q529 : (Jvm.Cond.classLink "java/util/Arrays" (45 : Nat) "java/lang/StringBuilder") ∈ lw_all := lw_g (lw_at lw_m2 218 rfl) rfl
theorem q530 : (Jvm.Cond.methodLink "java/util/Arrays" (47 : Nat) ({ cls := "java/lang/StringBuilder", name := "<init>", desc := "()V" } : Jvm.MethodName)) ∈ lw_all := lw_g (lw_at lw_m2 219 rfl) rfl
theorem q531 : (Jvm.Cond.methodLink "java/util/Arrays" (54 : Nat) ({ cls := "java/lang/StringBuilder", name := "append", desc := "(I)Ljava/lang/StringBuilder;" } : Jvm.MethodName)) ∈ lw_all := lw_g (lw_at lw_m2 220 rfl) rfl
theorem q532 : (Jvm.Cond.stringRef "java/util/Arrays" (337 : Nat) " > ") ∈ lw_tbl := lw_at lw_m2 221 rfl
theorem q533 : (Jvm.Cond.methodLink "java/util/Arrays" (50 : Nat) ({ cls := "java/lang/StringBuilder", name := "append", desc := "(Ljava/lang/String;)Ljava/lang/StringBuilder;" } : Jvm.MethodName)) ∈ lw_all := lw_g (lw_at lw_m2 222 rfl) rfl
theorem q534 : (Jvm.Cond.methodLink "java/util/Arrays" (61 : Nat) ({ cls := "java/lang/StringBuilder", name := "toString", desc := "()Ljava/lang/String;" } : Jvm.MethodName)) ∈ lw_all := lw_g (lw_at lw_m2 223 rfl) rfl
theorem q535 : (Jvm.Cond.methodLink "java/util/Arrays" (65 : Nat) ({ cls := "java/lang/IllegalArgumentException", name := "<init>", desc := "(Ljava/lang/String;)V" } : Jvm.MethodName)) ∈ lw_all := lw_g (lw_at lw_m2 224 rfl) rfl
theorem q601 : (Jvm.Cond.static ({ cls := "java/util/Arrays", name := "fill", desc := "([BIIB)V" } : Jvm.MethodName)) ∈ lw_all := lw_g (lw_at lw_m3 50 rfl) rfl
theorem q602 : (Jvm.Cond.code ({ cls := "java/util/Arrays", name := "fill", desc := "([BIIB)V" } : Jvm.MethodName) prog_41_method_110_code (5 : Nat) (Option.none : Option Jvm.ClassFile.FieldType)) ∈ lw_all := lw_g (lw_at lw_m3 51 rfl) rfl
theorem q603 : (Jvm.Cond.methodLink "java/util/Arrays" (13 : Nat) ({ cls := "java/util/Arrays", name := "rangeCheck", desc := "(III)V" } : Jvm.MethodName)) ∈ lw_all := lw_g (lw_at lw_m3 52 rfl) rfl
theorem q604 : (Jvm.Cond.static ({ cls := "java/util/Arrays", name := "rangeCheck", desc := "(III)V" } : Jvm.MethodName)) ∈ lw_all := lw_g (lw_at lw_m3 53 rfl) rfl
theorem q605 : (Jvm.Cond.code ({ cls := "java/util/Arrays", name := "rangeCheck", desc := "(III)V" } : Jvm.MethodName) prog_41_method_30_code (3 : Nat) (Option.none : Option Jvm.ClassFile.FieldType)) ∈ lw_all := lw_g (lw_at lw_m3 54 rfl) rfl
theorem q606 : (Jvm.Cond.stringRef "java/util/Arrays" (48 : Nat) "fromIndex(") ∈ lw_tbl := lw_at lw_m3 55 rfl
theorem q607 : (Jvm.Cond.stringRef "java/util/Arrays" (57 : Nat) ") > toIndex(") ∈ lw_tbl := lw_at lw_m3 56 rfl
theorem q608 : (Jvm.Cond.stringRef "java/util/Arrays" (59 : Nat) ")") ∈ lw_tbl := lw_at lw_m3 57 rfl
theorem q609 : (Jvm.Cond.classLink "java/util/Arrays" (68 : Nat) "java/lang/ArrayIndexOutOfBoundsException") ∈ lw_all := lw_g (lw_at lw_m3 58 rfl) rfl
theorem q620 : (Jvm.Cond.methodLink "java/util/Arrays" (70 : Nat) ({ cls := "java/lang/ArrayIndexOutOfBoundsException", name := "<init>", desc := "(I)V" } : Jvm.MethodName)) ∈ lw_all := lw_g (lw_at lw_m3 69 rfl) rfl
theorem q1265 : (Jvm.Cond.static ({ cls := "java/util/Arrays", name := "copyOf", desc := "([Ljava/lang/Object;I)[Ljava/lang/Object;" } : Jvm.MethodName)) ∈ lw_all := lw_g (lw_at lw_m5 234 rfl) rfl
theorem q1266 : (Jvm.Cond.code ({ cls := "java/util/Arrays", name := "copyOf", desc := "([Ljava/lang/Object;I)[Ljava/lang/Object;" } : Jvm.MethodName) prog_41_method_119_code (2 : Nat) (Option.some (Jvm.ClassFile.FieldType.array (Jvm.ClassFile.FieldType.object "java/lang/Object")))) ∈ lw_all := lw_g (lw_at lw_m5 235 rfl) rfl
theorem q1267 : (Jvm.Cond.methodLink "java/util/Arrays" (86 : Nat) ({ cls := "java/lang/Object", name := "getClass", desc := "()Ljava/lang/Class;" } : Jvm.MethodName)) ∈ lw_all := lw_g (lw_at lw_m5 236 rfl) rfl
theorem q1268 : (Jvm.Cond.methodLink "java/util/Arrays" (300 : Nat) ({ cls := "java/util/Arrays", name := "copyOf", desc := "([Ljava/lang/Object;ILjava/lang/Class;)[Ljava/lang/Object;" } : Jvm.MethodName)) ∈ lw_all := lw_g (lw_at lw_m5 237 rfl) rfl
theorem q1269 : (Jvm.Cond.static ({ cls := "java/util/Arrays", name := "copyOf", desc := "([Ljava/lang/Object;ILjava/lang/Class;)[Ljava/lang/Object;" } : Jvm.MethodName)) ∈ lw_all := lw_g (lw_at lw_m5 238 rfl) rfl
theorem q1270 : (Jvm.Cond.code ({ cls := "java/util/Arrays", name := "copyOf", desc := "([Ljava/lang/Object;ILjava/lang/Class;)[Ljava/lang/Object;" } : Jvm.MethodName) prog_41_method_120_code (4 : Nat) (Option.some (Jvm.ClassFile.FieldType.array (Jvm.ClassFile.FieldType.object "java/lang/Object")))) ∈ lw_all := lw_g (lw_at lw_m5 239 rfl) rfl
theorem q1271 : (Jvm.Cond.classLink "java/util/Arrays" (110 : Nat) "[Ljava/lang/Object;") ∈ lw_all := lw_g (lw_at lw_m6 0 rfl) rfl
theorem q1273 : (Jvm.Cond.classLink "java/util/Arrays" (2 : Nat) "java/lang/Object") ∈ lw_all := lw_g (lw_at lw_m6 2 rfl) rfl

/-! java/lang/StringLatin1 -/
set_option maxRecDepth 100000
def RJ21 : String := "java/lang/StringLatin1"
abbrev cJ21_fillNull : ByteArray := prog_30_method_48_code
def yJ21_fillNull : MethodName := ⟨RJ21, "fillNull", "([BII)V"⟩
def dkwJ21_fillNull_0 : List UInt8 := [42, 27, 28, 3, 184, 0, 236, 177]
abbrev dktJ21_fillNull_0 : List UInt8 := dkwJ21_fillNull_0 ++ []
theorem dksJ21_fillNull_0 : cJ21_fillNull.data.toList.drop 0 = dktJ21_fillNull_0 := by decide +kernel
theorem dJ21_fillNull_0 : decode cJ21_fillNull 0 = .ok (.aload_n 0, 1) := dk_42 (dk_at dksJ21_fillNull_0 0 rfl rfl)
theorem dJ21_fillNull_1 : decode cJ21_fillNull 1 = .ok (.iload_n 1, 1) := dk_27 (dk_at dksJ21_fillNull_0 1 rfl rfl)
theorem dJ21_fillNull_2 : decode cJ21_fillNull 2 = .ok (.iload_n 2, 1) := dk_28 (dk_at dksJ21_fillNull_0 2 rfl rfl)
theorem dJ21_fillNull_3 : decode cJ21_fillNull 3 = .ok (.iconst 0, 1) := dk_3 (dk_at dksJ21_fillNull_0 3 rfl rfl)
theorem dJ21_fillNull_4 : decode cJ21_fillNull 4 = .ok (.invokestatic 236, 3) := dk_184 0 236 (dk_at dksJ21_fillNull_0 4 rfl rfl)
theorem dJ21_fillNull_7 : decode cJ21_fillNull 7 = .ok (.return_, 1) := dk_177 (dk_at dksJ21_fillNull_0 7 rfl rfl)
abbrev cJ21_getChar : ByteArray := prog_30_method_44_code
def yJ21_getChar : MethodName := ⟨RJ21, "getChar", "([BI)C"⟩
def dkwJ21_getChar_0 : List UInt8 := [42, 27, 51, 17, 0, 255, 126, 146, 172]
abbrev dktJ21_getChar_0 : List UInt8 := dkwJ21_getChar_0 ++ []
theorem dksJ21_getChar_0 : cJ21_getChar.data.toList.drop 0 = dktJ21_getChar_0 := by decide +kernel
theorem dJ21_getChar_0 : decode cJ21_getChar 0 = .ok (.aload_n 0, 1) := dk_42 (dk_at dksJ21_getChar_0 0 rfl rfl)
theorem dJ21_getChar_1 : decode cJ21_getChar 1 = .ok (.iload_n 1, 1) := dk_27 (dk_at dksJ21_getChar_0 1 rfl rfl)
theorem dJ21_getChar_2 : decode cJ21_getChar 2 = .ok (.baload, 1) := dk_51 (dk_at dksJ21_getChar_0 2 rfl rfl)
theorem dJ21_getChar_3 : decode cJ21_getChar 3 = .ok (.sipush 255, 3) := dk_17 0 255 (dk_at dksJ21_getChar_0 3 rfl rfl)
theorem dJ21_getChar_6 : decode cJ21_getChar 6 = .ok (.iand, 1) := dk_126 (dk_at dksJ21_getChar_0 6 rfl rfl)
theorem dJ21_getChar_7 : decode cJ21_getChar 7 = .ok (.i2c, 1) := dk_146 (dk_at dksJ21_getChar_0 7 rfl rfl)
theorem dJ21_getChar_8 : decode cJ21_getChar 8 = .ok (.ireturn, 1) := dk_172 (dk_at dksJ21_getChar_0 8 rfl rfl)
abbrev cJ21_canEncode : ByteArray := prog_30_method_3_code
def yJ21_canEncode : MethodName := ⟨RJ21, "canEncode", "(C)Z"⟩
def dkwJ21_canEncode_0 : List UInt8 := [26, 17, 0, 255, 163, 0, 7, 4, 167, 0, 4, 3, 172]
abbrev dktJ21_canEncode_0 : List UInt8 := dkwJ21_canEncode_0 ++ []
theorem dksJ21_canEncode_0 : cJ21_canEncode.data.toList.drop 0 = dktJ21_canEncode_0 := by decide +kernel
theorem dJ21_canEncode_0 : decode cJ21_canEncode 0 = .ok (.iload_n 0, 1) := dk_26 (dk_at dksJ21_canEncode_0 0 rfl rfl)
theorem dJ21_canEncode_1 : decode cJ21_canEncode 1 = .ok (.sipush 255, 3) := dk_17 0 255 (dk_at dksJ21_canEncode_0 1 rfl rfl)
theorem dJ21_canEncode_4 : decode cJ21_canEncode 4 = .ok (.if_icmp .gt 7, 3) := dk_163 0 7 (dk_at dksJ21_canEncode_0 4 rfl rfl)
theorem dJ21_canEncode_7 : decode cJ21_canEncode 7 = .ok (.iconst 1, 1) := dk_4 (dk_at dksJ21_canEncode_0 7 rfl rfl)
theorem dJ21_canEncode_8 : decode cJ21_canEncode 8 = .ok (.goto 4, 3) := dk_167 0 4 (dk_at dksJ21_canEncode_0 8 rfl rfl)
theorem dJ21_canEncode_11 : decode cJ21_canEncode 11 = .ok (.iconst 0, 1) := dk_3 (dk_at dksJ21_canEncode_0 11 rfl rfl)
theorem dJ21_canEncode_12 : decode cJ21_canEncode 12 = .ok (.ireturn, 1) := dk_172 (dk_at dksJ21_canEncode_0 12 rfl rfl)
theorem q98 : (Jvm.Cond.initialized "java/lang/StringLatin1") ∈ lw_all := lw_g (lw_at lw_m1 27 rfl) rfl
theorem q412 : (Jvm.Cond.static ({ cls := "java/lang/StringLatin1", name := "inflate", desc := "([BI[BII)V" } : Jvm.MethodName)) ∈ lw_all := lw_g (lw_at lw_m2 101 rfl) rfl
theorem q413 : (Jvm.Cond.code ({ cls := "java/lang/StringLatin1", name := "inflate", desc := "([BI[BII)V" } : Jvm.MethodName) prog_30_method_50_code (5 : Nat) (Option.none : Option Jvm.ClassFile.FieldType)) ∈ lw_all := lw_g (lw_at lw_m2 102 rfl) rfl
theorem q414 : (Jvm.Cond.methodLink "java/lang/StringLatin1" (240 : Nat) ({ cls := "java/lang/StringUTF16", name := "inflate", desc := "([BI[BII)V" } : Jvm.MethodName)) ∈ lw_all := lw_g (lw_at lw_m2 103 rfl) rfl
theorem q598 : (Jvm.Cond.static ({ cls := "java/lang/StringLatin1", name := "fillNull", desc := "([BII)V" } : Jvm.MethodName)) ∈ lw_all := lw_g (lw_at lw_m3 47 rfl) rfl
theorem q599 : (Jvm.Cond.code ({ cls := "java/lang/StringLatin1", name := "fillNull", desc := "([BII)V" } : Jvm.MethodName) prog_30_method_48_code (3 : Nat) (Option.none : Option Jvm.ClassFile.FieldType)) ∈ lw_all := lw_g (lw_at lw_m3 48 rfl) rfl
theorem q600 : (Jvm.Cond.methodLink "java/lang/StringLatin1" (236 : Nat) ({ cls := "java/util/Arrays", name := "fill", desc := "([BIIB)V" } : Jvm.MethodName)) ∈ lw_all := lw_g (lw_at lw_m3 49 rfl) rfl
theorem q778 : (Jvm.Cond.static ({ cls := "java/lang/StringLatin1", name := "hashCode", desc := "([B)I" } : Jvm.MethodName)) ∈ lw_all := lw_g (lw_at lw_m3 227 rfl) rfl
theorem q779 : (Jvm.Cond.code ({ cls := "java/lang/StringLatin1", name := "hashCode", desc := "([B)I" } : Jvm.MethodName) prog_30_method_21_code (1 : Nat) (Option.some Jvm.ClassFile.FieldType.int)) ∈ lw_all := lw_g (lw_at lw_m3 228 rfl) rfl
theorem q780 : (Jvm.Cond.methodLink "java/lang/StringLatin1" (84 : Nat) ({ cls := "jdk/internal/util/ArraysSupport", name := "vectorizedHashCode", desc := "(Ljava/lang/Object;IIII)I" } : Jvm.MethodName)) ∈ lw_all := lw_g (lw_at lw_m3 229 rfl) rfl
theorem q858 : (Jvm.Cond.static ({ cls := "java/lang/StringLatin1", name := "equals", desc := "([B[B)Z" } : Jvm.MethodName)) ∈ lw_all := lw_g (lw_at lw_m4 67 rfl) rfl
theorem q859 : (Jvm.Cond.code ({ cls := "java/lang/StringLatin1", name := "equals", desc := "([B[B)Z" } : Jvm.MethodName) prog_30_method_13_code (3 : Nat) (Option.some Jvm.ClassFile.FieldType.boolean)) ∈ lw_all := lw_g (lw_at lw_m4 68 rfl) rfl
theorem q926 : (Jvm.Cond.static ({ cls := "java/lang/StringLatin1", name := "compareTo", desc := "([B[B)I" } : Jvm.MethodName)) ∈ lw_all := lw_g (lw_at lw_m4 135 rfl) rfl
theorem q927 : (Jvm.Cond.code ({ cls := "java/lang/StringLatin1", name := "compareTo", desc := "([B[B)I" } : Jvm.MethodName) prog_30_method_14_code (4 : Nat) (Option.some Jvm.ClassFile.FieldType.int)) ∈ lw_all := lw_g (lw_at lw_m4 136 rfl) rfl
theorem q928 : (Jvm.Cond.methodLink "java/lang/StringLatin1" (34 : Nat) ({ cls := "java/lang/StringLatin1", name := "compareTo", desc := "([B[BII)I" } : Jvm.MethodName)) ∈ lw_all := lw_g (lw_at lw_m4 137 rfl) rfl
theorem q929 : (Jvm.Cond.static ({ cls := "java/lang/StringLatin1", name := "compareTo", desc := "([B[BII)I" } : Jvm.MethodName)) ∈ lw_all := lw_g (lw_at lw_m4 138 rfl) rfl
theorem q930 : (Jvm.Cond.code ({ cls := "java/lang/StringLatin1", name := "compareTo", desc := "([B[BII)I" } : Jvm.MethodName) prog_30_method_15_code (6 : Nat) (Option.some Jvm.ClassFile.FieldType.int)) ∈ lw_all := lw_g (lw_at lw_m4 139 rfl) rfl
theorem q931 : (Jvm.Cond.methodLink "java/lang/StringLatin1" (38 : Nat) ({ cls := "java/lang/Math", name := "min", desc := "(II)I" } : Jvm.MethodName)) ∈ lw_all := lw_g (lw_at lw_m4 140 rfl) rfl
theorem q932 : (Jvm.Cond.methodLink "java/lang/StringLatin1" (44 : Nat) ({ cls := "jdk/internal/util/ArraysSupport", name := "mismatch", desc := "([B[BI)I" } : Jvm.MethodName)) ∈ lw_all := lw_g (lw_at lw_m4 141 rfl) rfl
theorem q1036 : (Jvm.Cond.methodLink "java/lang/StringLatin1" (50 : Nat) ({ cls := "java/lang/StringLatin1", name := "getChar", desc := "([BI)C" } : Jvm.MethodName)) ∈ lw_all := lw_g (lw_at lw_m5 5 rfl) rfl
theorem q1037 : (Jvm.Cond.static ({ cls := "java/lang/StringLatin1", name := "getChar", desc := "([BI)C" } : Jvm.MethodName)) ∈ lw_all := lw_g (lw_at lw_m5 6 rfl) rfl
theorem q1038 : (Jvm.Cond.code ({ cls := "java/lang/StringLatin1", name := "getChar", desc := "([BI)C" } : Jvm.MethodName) prog_30_method_44_code (2 : Nat) (Option.some Jvm.ClassFile.FieldType.char)) ∈ lw_all := lw_g (lw_at lw_m5 7 rfl) rfl
theorem q1047 : (Jvm.Cond.static ({ cls := "java/lang/StringLatin1", name := "compareToUTF16", desc := "([B[B)I" } : Jvm.MethodName)) ∈ lw_all := lw_g (lw_at lw_m5 16 rfl) rfl
theorem q1048 : (Jvm.Cond.code ({ cls := "java/lang/StringLatin1", name := "compareToUTF16", desc := "([B[B)I" } : Jvm.MethodName) prog_30_method_16_code (4 : Nat) (Option.some Jvm.ClassFile.FieldType.int)) ∈ lw_all := lw_g (lw_at lw_m5 17 rfl) rfl
theorem q1049 : (Jvm.Cond.methodLink "java/lang/StringLatin1" (54 : Nat) ({ cls := "java/lang/StringLatin1", name := "length", desc := "([B)I" } : Jvm.MethodName)) ∈ lw_all := lw_g (lw_at lw_m5 18 rfl) rfl
theorem q1050 : (Jvm.Cond.static ({ cls := "java/lang/StringLatin1", name := "length", desc := "([B)I" } : Jvm.MethodName)) ∈ lw_all := lw_g (lw_at lw_m5 19 rfl) rfl
theorem q1051 : (Jvm.Cond.code ({ cls := "java/lang/StringLatin1", name := "length", desc := "([B)I" } : Jvm.MethodName) prog_30_method_5_code (1 : Nat) (Option.some Jvm.ClassFile.FieldType.int)) ∈ lw_all := lw_g (lw_at lw_m5 20 rfl) rfl
theorem q1052 : (Jvm.Cond.methodLink "java/lang/StringLatin1" (58 : Nat) ({ cls := "java/lang/StringUTF16", name := "length", desc := "([B)I" } : Jvm.MethodName)) ∈ lw_all := lw_g (lw_at lw_m5 21 rfl) rfl
theorem q1053 : (Jvm.Cond.methodLink "java/lang/StringLatin1" (59 : Nat) ({ cls := "java/lang/StringLatin1", name := "compareToUTF16Values", desc := "([B[BII)I" } : Jvm.MethodName)) ∈ lw_all := lw_g (lw_at lw_m5 22 rfl) rfl
theorem q1054 : (Jvm.Cond.static ({ cls := "java/lang/StringLatin1", name := "compareToUTF16Values", desc := "([B[BII)I" } : Jvm.MethodName)) ∈ lw_all := lw_g (lw_at lw_m5 23 rfl) rfl
theorem q1055 : (Jvm.Cond.code ({ cls := "java/lang/StringLatin1", name := "compareToUTF16Values", desc := "([B[BII)I" } : Jvm.MethodName) prog_30_method_18_code (8 : Nat) (Option.some Jvm.ClassFile.FieldType.int)) ∈ lw_all := lw_g (lw_at lw_m5 24 rfl) rfl
theorem q1056 : (Jvm.Cond.methodLink "java/lang/StringLatin1" (65 : Nat) ({ cls := "java/lang/StringUTF16", name := "getChar", desc := "([BI)C" } : Jvm.MethodName)) ∈ lw_all := lw_g (lw_at lw_m5 25 rfl) rfl
theorem q1086 : (Jvm.Cond.static ({ cls := "java/lang/StringLatin1", name := "compareToUTF16", desc := "([B[BII)I" } : Jvm.MethodName)) ∈ lw_all := lw_g (lw_at lw_m5 55 rfl) rfl
theorem q1087 : (Jvm.Cond.code ({ cls := "java/lang/StringLatin1", name := "compareToUTF16", desc := "([B[BII)I" } : Jvm.MethodName) prog_30_method_17_code (4 : Nat) (Option.some Jvm.ClassFile.FieldType.int)) ∈ lw_all := lw_g (lw_at lw_m5 56 rfl) rfl
theorem q1088 : (Jvm.Cond.methodLink "java/lang/StringLatin1" (62 : Nat) ({ cls := "java/lang/String", name := "checkOffset", desc := "(II)V" } : Jvm.MethodName)) ∈ lw_all := lw_g (lw_at lw_m5 57 rfl) rfl
theorem q1663 : (Jvm.Cond.static ({ cls := "java/lang/StringLatin1", name := "canEncode", desc := "(C)Z" } : Jvm.MethodName)) ∈ lw_all := lw_g (lw_at lw_m7 152 rfl) rfl
theorem q1664 : (Jvm.Cond.code ({ cls := "java/lang/StringLatin1", name := "canEncode", desc := "(C)Z" } : Jvm.MethodName) prog_30_method_3_code (1 : Nat) (Option.some Jvm.ClassFile.FieldType.boolean)) ∈ lw_all := lw_g (lw_at lw_m7 153 rfl) rfl

/-! java/util/HashMap$Node -/
set_option maxRecDepth 100000
def RJ23 : String := "java/util/HashMap$Node"
def TJ23 : u_T := fun k => match k with
  | 0 => ("java/util/HashMap$Node", "hash", "I", true)
  | 1 => ("java/util/HashMap$Node", "key", "Ljava/lang/Object;", true)
  | 2 => ("java/util/HashMap$Node", "value", "Ljava/lang/Object;", false)
  | _ => ("java/util/HashMap$Node", "next", "Ljava/util/HashMap$Node;", false)
def tyJ23 : Nat → FieldType := fun k => match k with
  | 0 => .int
  | 1 => .object "java/lang/Object"
  | 2 => .object "java/lang/Object"
  | _ => .object "java/util/HashMap$Node"
abbrev wsJ230 : List Cond := u_ws RJ23 TJ23 4
theorem nmJ23 : ∀ a, a < 4 → ∀ b, b < 4 → a ≠ b → (TJ23 a).2.1 ≠ (TJ23 b).2.1 := by decide +kernel
theorem tyJ23_ok : ∀ k, k < 4 → parseFieldDescriptor (TJ23 k).2.2.1 = some (tyJ23 k) := by decide +kernel
abbrev cJ23_init : ByteArray := prog_44_method_1_code
def yJ23_init : MethodName := ⟨RJ23, "<init>", "(ILjava/lang/Object;Ljava/lang/Object;Ljava/util/HashMap$Node;)V"⟩
def dkwJ23_init_1 : List UInt8 := [181, 0, 20, 177]
abbrev dktJ23_init_1 : List UInt8 := dkwJ23_init_1 ++ []
def dkwJ23_init_0 : List UInt8 := [42, 183, 0, 1, 42, 27, 181, 0, 7, 42, 44, 181, 0, 13, 42, 45, 181, 0, 17, 42, 25, 4]
abbrev dktJ23_init_0 : List UInt8 := dkwJ23_init_0 ++ dktJ23_init_1
theorem dksJ23_init_0 : cJ23_init.data.toList.drop 0 = dktJ23_init_0 := by decide +kernel
theorem dksJ23_init_1 : cJ23_init.data.toList.drop 22 = dktJ23_init_1 := dk_seg dksJ23_init_0 22 rfl rfl
theorem dJ23_init_0 : decode cJ23_init 0 = .ok (.aload_n 0, 1) := dk_42 (dk_at dksJ23_init_0 0 rfl rfl)
theorem dJ23_init_1 : decode cJ23_init 1 = .ok (.invokespecial 1, 3) := dk_183 0 1 (dk_at dksJ23_init_0 1 rfl rfl)
theorem dJ23_init_4 : decode cJ23_init 4 = .ok (.aload_n 0, 1) := dk_42 (dk_at dksJ23_init_0 4 rfl rfl)
theorem dJ23_init_5 : decode cJ23_init 5 = .ok (.iload_n 1, 1) := dk_27 (dk_at dksJ23_init_0 5 rfl rfl)
theorem dJ23_init_6 : decode cJ23_init 6 = .ok (.putfield 7, 3) := dk_181 0 7 (dk_at dksJ23_init_0 6 rfl rfl)
theorem dJ23_init_9 : decode cJ23_init 9 = .ok (.aload_n 0, 1) := dk_42 (dk_at dksJ23_init_0 9 rfl rfl)
theorem dJ23_init_10 : decode cJ23_init 10 = .ok (.aload_n 2, 1) := dk_44 (dk_at dksJ23_init_0 10 rfl rfl)
theorem dJ23_init_11 : decode cJ23_init 11 = .ok (.putfield 13, 3) := dk_181 0 13 (dk_at dksJ23_init_0 11 rfl rfl)
theorem dJ23_init_14 : decode cJ23_init 14 = .ok (.aload_n 0, 1) := dk_42 (dk_at dksJ23_init_0 14 rfl rfl)
theorem dJ23_init_15 : decode cJ23_init 15 = .ok (.aload_n 3, 1) := dk_45 (dk_at dksJ23_init_0 15 rfl rfl)
theorem dJ23_init_16 : decode cJ23_init 16 = .ok (.putfield 17, 3) := dk_181 0 17 (dk_at dksJ23_init_0 16 rfl rfl)
theorem dJ23_init_19 : decode cJ23_init 19 = .ok (.aload_n 0, 1) := dk_42 (dk_at dksJ23_init_0 19 rfl rfl)
theorem dJ23_init_20 : decode cJ23_init 20 = .ok (.aload 4, 2) := dk_25 4 (dk_at dksJ23_init_0 20 rfl rfl)
theorem dJ23_init_22 : decode cJ23_init 22 = .ok (.putfield 20, 3) := dk_181 0 20 (dk_at dksJ23_init_1 0 rfl rfl)
theorem dJ23_init_25 : decode cJ23_init 25 = .ok (.return_, 1) := dk_177 (dk_at dksJ23_init_1 3 rfl rfl)
theorem q101 : (Jvm.Cond.initialized "java/util/HashMap$Node") ∈ lw_all := lw_g (lw_at lw_m1 30 rfl) rfl
theorem q903 : (Jvm.Cond.selects "java/util/HashMap$Node" ({ cls := "java/lang/Object", name := "getClass", desc := "()Ljava/lang/Class;" } : Jvm.MethodName) ({ cls := "java/lang/Object", name := "getClass", desc := "()Ljava/lang/Class;" } : Jvm.MethodName)) ∈ lw_all := lw_g (lw_at lw_m4 112 rfl) rfl
theorem q1306 : (Jvm.Cond.instantiable "java/util/HashMap$Node" (4 : Nat)) ∈ lw_all := lw_g (lw_at lw_m6 35 rfl) rfl
theorem q1308 : (Jvm.Cond.instanceMethod ({ cls := "java/util/HashMap$Node", name := "<init>", desc := "(ILjava/lang/Object;Ljava/lang/Object;Ljava/util/HashMap$Node;)V" } : Jvm.MethodName)) ∈ lw_all := lw_g (lw_at lw_m6 37 rfl) rfl
theorem q1309 : (Jvm.Cond.code ({ cls := "java/util/HashMap$Node", name := "<init>", desc := "(ILjava/lang/Object;Ljava/lang/Object;Ljava/util/HashMap$Node;)V" } : Jvm.MethodName) prog_44_method_1_code (5 : Nat) (Option.none : Option Jvm.ClassFile.FieldType)) ∈ lw_all := lw_g (lw_at lw_m6 38 rfl) rfl
theorem q1310 : (Jvm.Cond.methodLink "java/util/HashMap$Node" (1 : Nat) ({ cls := "java/lang/Object", name := "<init>", desc := "()V" } : Jvm.MethodName)) ∈ lw_all := lw_g (lw_at lw_m6 39 rfl) rfl
theorem q1311 : (Jvm.Cond.fieldLink "java/util/HashMap$Node" (7 : Nat) "java/util/HashMap$Node" "hash" "I") ∈ lw_all := lw_g (lw_at lw_m6 40 rfl) rfl
theorem q1315 : (Jvm.Cond.fieldLink "java/util/HashMap$Node" (13 : Nat) "java/util/HashMap$Node" "key" "Ljava/lang/Object;") ∈ lw_all := lw_g (lw_at lw_m6 44 rfl) rfl
theorem q1319 : (Jvm.Cond.fieldLink "java/util/HashMap$Node" (17 : Nat) "java/util/HashMap$Node" "value" "Ljava/lang/Object;") ∈ lw_all := lw_g (lw_at lw_m6 48 rfl) rfl
theorem q1321 : (Jvm.Cond.fieldLink "java/util/HashMap$Node" (20 : Nat) "java/util/HashMap$Node" "next" "Ljava/util/HashMap$Node;") ∈ lw_all := lw_g (lw_at lw_m6 50 rfl) rfl
theorem q1327 : (Jvm.Cond.laysFinal "java/util/HashMap$Node" "java/util/HashMap$Node" "hash" "I") ∈ lw_all := lw_g (lw_at lw_m6 56 rfl) rfl
theorem q1328 : (Jvm.Cond.soleField "java/util/HashMap$Node" "hash") ∈ lw_all := lw_g (lw_at lw_m6 57 rfl) rfl
theorem q1329 : (Jvm.Cond.laysFinal "java/util/HashMap$Node" "java/util/HashMap$Node" "key" "Ljava/lang/Object;") ∈ lw_all := lw_g (lw_at lw_m6 58 rfl) rfl
theorem q1330 : (Jvm.Cond.soleField "java/util/HashMap$Node" "key") ∈ lw_all := lw_g (lw_at lw_m6 59 rfl) rfl
theorem q1331 : (Jvm.Cond.lays "java/util/HashMap$Node" "java/util/HashMap$Node" "value" "Ljava/lang/Object;") ∈ lw_all := lw_g (lw_at lw_m6 60 rfl) rfl
theorem q1332 : (Jvm.Cond.soleField "java/util/HashMap$Node" "value") ∈ lw_all := lw_g (lw_at lw_m6 61 rfl) rfl
theorem q1333 : (Jvm.Cond.lays "java/util/HashMap$Node" "java/util/HashMap$Node" "next" "Ljava/util/HashMap$Node;") ∈ lw_all := lw_g (lw_at lw_m6 62 rfl) rfl
theorem q1334 : (Jvm.Cond.soleField "java/util/HashMap$Node" "next") ∈ lw_all := lw_g (lw_at lw_m6 63 rfl) rfl
theorem q1335 : (Jvm.Cond.superclass "java/util/HashMap$Node" "java/lang/Object") ∈ lw_all := lw_g (lw_at lw_m6 64 rfl) rfl
theorem q2079 : (Jvm.Cond.castable "java/util/HashMap$Node" "java/lang/Object") ∈ lw_tbl := lw_at lw_m9 88 rfl
theorem in_J23 : ∀ w ∈ wsJ230, w ∈ lw_all := lw_in wsJ230 [1327, 1329, 1331, 1333] (by decide +kernel) (by decide +kernel)

/-! java/lang/Double -/
set_option maxRecDepth 100000
def RJ29 : String := "java/lang/Double"
abbrev cJ29_doubleToLongBits : ByteArray := prog_16_method_23_code
def yJ29_doubleToLongBits : MethodName := ⟨RJ29, "doubleToLongBits", "(D)J"⟩
def dkwJ29_doubleToLongBits_0 : List UInt8 := [38, 184, 0, 122, 154, 0, 8, 38, 184, 0, 134, 173, 20, 0, 137, 173]
abbrev dktJ29_doubleToLongBits_0 : List UInt8 := dkwJ29_doubleToLongBits_0 ++ []
theorem dksJ29_doubleToLongBits_0 : cJ29_doubleToLongBits.data.toList.drop 0 = dktJ29_doubleToLongBits_0 := by decide +kernel
theorem dJ29_doubleToLongBits_0 : decode cJ29_doubleToLongBits 0 = .ok (.dload_n 0, 1) := dk_38 (dk_at dksJ29_doubleToLongBits_0 0 rfl rfl)
theorem dJ29_doubleToLongBits_1 : decode cJ29_doubleToLongBits 1 = .ok (.invokestatic 122, 3) := dk_184 0 122 (dk_at dksJ29_doubleToLongBits_0 1 rfl rfl)
theorem dJ29_doubleToLongBits_4 : decode cJ29_doubleToLongBits 4 = .ok (.ifCond .ne 8, 3) := dk_154 0 8 (dk_at dksJ29_doubleToLongBits_0 4 rfl rfl)
theorem dJ29_doubleToLongBits_7 : decode cJ29_doubleToLongBits 7 = .ok (.dload_n 0, 1) := dk_38 (dk_at dksJ29_doubleToLongBits_0 7 rfl rfl)
theorem dJ29_doubleToLongBits_8 : decode cJ29_doubleToLongBits 8 = .ok (.invokestatic 134, 3) := dk_184 0 134 (dk_at dksJ29_doubleToLongBits_0 8 rfl rfl)
theorem dJ29_doubleToLongBits_11 : decode cJ29_doubleToLongBits 11 = .ok (.lreturn, 1) := dk_173 (dk_at dksJ29_doubleToLongBits_0 11 rfl rfl)
theorem dJ29_doubleToLongBits_12 : decode cJ29_doubleToLongBits 12 = .ok (.ldc2_w 137, 3) := dk_20 0 137 (dk_at dksJ29_doubleToLongBits_0 12 rfl rfl)
theorem dJ29_doubleToLongBits_15 : decode cJ29_doubleToLongBits 15 = .ok (.lreturn, 1) := dk_173 (dk_at dksJ29_doubleToLongBits_0 15 rfl rfl)
abbrev cJ29_isNaN : ByteArray := prog_16_method_6_code
def yJ29_isNaN : MethodName := ⟨RJ29, "isNaN", "(D)Z"⟩
def dkwJ29_isNaN_0 : List UInt8 := [38, 38, 151, 153, 0, 7, 4, 167, 0, 4, 3, 172]
abbrev dktJ29_isNaN_0 : List UInt8 := dkwJ29_isNaN_0 ++ []
theorem dksJ29_isNaN_0 : cJ29_isNaN.data.toList.drop 0 = dktJ29_isNaN_0 := by decide +kernel
theorem dJ29_isNaN_0 : decode cJ29_isNaN 0 = .ok (.dload_n 0, 1) := dk_38 (dk_at dksJ29_isNaN_0 0 rfl rfl)
theorem dJ29_isNaN_1 : decode cJ29_isNaN 1 = .ok (.dload_n 0, 1) := dk_38 (dk_at dksJ29_isNaN_0 1 rfl rfl)
theorem dJ29_isNaN_2 : decode cJ29_isNaN 2 = .ok (.dcmp .l, 1) := dk_151 (dk_at dksJ29_isNaN_0 2 rfl rfl)
theorem dJ29_isNaN_3 : decode cJ29_isNaN 3 = .ok (.ifCond .eq 7, 3) := dk_153 0 7 (dk_at dksJ29_isNaN_0 3 rfl rfl)
theorem dJ29_isNaN_6 : decode cJ29_isNaN 6 = .ok (.iconst 1, 1) := dk_4 (dk_at dksJ29_isNaN_0 6 rfl rfl)
theorem dJ29_isNaN_7 : decode cJ29_isNaN 7 = .ok (.goto 4, 3) := dk_167 0 4 (dk_at dksJ29_isNaN_0 7 rfl rfl)
theorem dJ29_isNaN_10 : decode cJ29_isNaN 10 = .ok (.iconst 0, 1) := dk_3 (dk_at dksJ29_isNaN_0 10 rfl rfl)
theorem dJ29_isNaN_11 : decode cJ29_isNaN 11 = .ok (.ireturn, 1) := dk_172 (dk_at dksJ29_isNaN_0 11 rfl rfl)
theorem q111 : (Jvm.Cond.initialized "java/lang/Double") ∈ lw_all := lw_g (lw_at lw_m1 40 rfl) rfl
theorem q1503 : (Jvm.Cond.static ({ cls := "java/lang/Double", name := "doubleToLongBits", desc := "(D)J" } : Jvm.MethodName)) ∈ lw_all := lw_g (lw_at lw_m6 232 rfl) rfl
theorem q1504 : (Jvm.Cond.code ({ cls := "java/lang/Double", name := "doubleToLongBits", desc := "(D)J" } : Jvm.MethodName) prog_16_method_23_code (2 : Nat) (Option.some Jvm.ClassFile.FieldType.long)) ∈ lw_all := lw_g (lw_at lw_m6 233 rfl) rfl
theorem q1505 : (Jvm.Cond.methodLink "java/lang/Double" (122 : Nat) ({ cls := "java/lang/Double", name := "isNaN", desc := "(D)Z" } : Jvm.MethodName)) ∈ lw_all := lw_g (lw_at lw_m6 234 rfl) rfl
theorem q1506 : (Jvm.Cond.static ({ cls := "java/lang/Double", name := "isNaN", desc := "(D)Z" } : Jvm.MethodName)) ∈ lw_all := lw_g (lw_at lw_m6 235 rfl) rfl
theorem q1507 : (Jvm.Cond.code ({ cls := "java/lang/Double", name := "isNaN", desc := "(D)Z" } : Jvm.MethodName) prog_16_method_6_code (2 : Nat) (Option.some Jvm.ClassFile.FieldType.boolean)) ∈ lw_all := lw_g (lw_at lw_m6 236 rfl) rfl
theorem q1508 : (Jvm.Cond.methodLink "java/lang/Double" (134 : Nat) ({ cls := "java/lang/Double", name := "doubleToRawLongBits", desc := "(D)J" } : Jvm.MethodName)) ∈ lw_all := lw_g (lw_at lw_m6 237 rfl) rfl
theorem q1509 : (Jvm.Cond.static ({ cls := "java/lang/Double", name := "doubleToRawLongBits", desc := "(D)J" } : Jvm.MethodName)) ∈ lw_all := lw_g (lw_at lw_m6 238 rfl) rfl
theorem q1510 : (Jvm.Cond.native ({ cls := "java/lang/Double", name := "doubleToRawLongBits", desc := "(D)J" } : Jvm.MethodName)) ∈ lw_all := lw_g (lw_at lw_m6 239 rfl) rfl
theorem q1511 : (Jvm.Cond.constantLong "java/lang/Double" (137 : Nat) (9221120237041090560 : Int64)) ∈ lw_all := lw_g (lw_at lw_m7 0 rfl) rfl

/-! java/lang/Object -/
set_option maxRecDepth 100000
def RJ30 : String := "java/lang/Object"
abbrev cJ30_init : ByteArray := object_method_1_code
def yJ30_init : MethodName := ⟨RJ30, "<init>", "()V"⟩
theorem dJ30_init_0 : decode cJ30_init 0 = .ok (.return_, 1) := by decide +kernel
abbrev cJ30_equals : ByteArray := object_method_4_code
def yJ30_equals : MethodName := ⟨RJ30, "equals", "(Ljava/lang/Object;)Z"⟩
def dkwJ30_equals_0 : List UInt8 := [42, 43, 166, 0, 7, 4, 167, 0, 4, 3, 172]
abbrev dktJ30_equals_0 : List UInt8 := dkwJ30_equals_0 ++ []
theorem dksJ30_equals_0 : cJ30_equals.data.toList.drop 0 = dktJ30_equals_0 := by decide +kernel
theorem dJ30_equals_0 : decode cJ30_equals 0 = .ok (.aload_n 0, 1) := dk_42 (dk_at dksJ30_equals_0 0 rfl rfl)
theorem dJ30_equals_1 : decode cJ30_equals 1 = .ok (.aload_n 1, 1) := dk_43 (dk_at dksJ30_equals_0 1 rfl rfl)
theorem dJ30_equals_2 : decode cJ30_equals 2 = .ok (.if_acmp .ne 7, 3) := dk_166 0 7 (dk_at dksJ30_equals_0 2 rfl rfl)
theorem dJ30_equals_5 : decode cJ30_equals 5 = .ok (.iconst 1, 1) := dk_4 (dk_at dksJ30_equals_0 5 rfl rfl)
theorem dJ30_equals_6 : decode cJ30_equals 6 = .ok (.goto 4, 3) := dk_167 0 4 (dk_at dksJ30_equals_0 6 rfl rfl)
theorem dJ30_equals_9 : decode cJ30_equals 9 = .ok (.iconst 0, 1) := dk_3 (dk_at dksJ30_equals_0 9 rfl rfl)
theorem dJ30_equals_10 : decode cJ30_equals 10 = .ok (.ireturn, 1) := dk_172 (dk_at dksJ30_equals_0 10 rfl rfl)
theorem q118 : (Jvm.Cond.instanceMethod ({ cls := "java/lang/Object", name := "<init>", desc := "()V" } : Jvm.MethodName)) ∈ lw_all := lw_g (lw_at lw_m1 47 rfl) rfl
theorem q119 : (Jvm.Cond.code ({ cls := "java/lang/Object", name := "<init>", desc := "()V" } : Jvm.MethodName) object_method_1_code (1 : Nat) (Option.none : Option Jvm.ClassFile.FieldType)) ∈ lw_all := lw_g (lw_at lw_m1 48 rfl) rfl
theorem q347 : (Jvm.Cond.native ({ cls := "java/lang/Object", name := "clone", desc := "()Ljava/lang/Object;" } : Jvm.MethodName)) ∈ lw_all := lw_g (lw_at lw_m2 36 rfl) rfl
theorem q348 : (Jvm.Cond.instanceMethod ({ cls := "java/lang/Object", name := "clone", desc := "()Ljava/lang/Object;" } : Jvm.MethodName)) ∈ lw_all := lw_g (lw_at lw_m2 37 rfl) rfl
theorem q753 : (Jvm.Cond.declares ({ cls := "java/lang/Object", name := "hashCode", desc := "()I" } : Jvm.MethodName)) ∈ lw_tbl := lw_at lw_m3 202 rfl
theorem q755 : (Jvm.Cond.instanceMethod ({ cls := "java/lang/Object", name := "hashCode", desc := "()I" } : Jvm.MethodName)) ∈ lw_all := lw_g (lw_at lw_m3 204 rfl) rfl
theorem q756 : (Jvm.Cond.sameMethod "java/lang/Object" "java/lang/Object" "hashCode" "()I") ∈ lw_all := lw_g (lw_at lw_m3 205 rfl) rfl
theorem q834 : (Jvm.Cond.native ({ cls := "java/lang/Object", name := "hashCode", desc := "()I" } : Jvm.MethodName)) ∈ lw_all := lw_g (lw_at lw_m4 43 rfl) rfl
theorem q835 : (Jvm.Cond.declares ({ cls := "java/lang/Object", name := "equals", desc := "(Ljava/lang/Object;)Z" } : Jvm.MethodName)) ∈ lw_tbl := lw_at lw_m4 44 rfl
theorem q837 : (Jvm.Cond.instanceMethod ({ cls := "java/lang/Object", name := "equals", desc := "(Ljava/lang/Object;)Z" } : Jvm.MethodName)) ∈ lw_all := lw_g (lw_at lw_m4 46 rfl) rfl
theorem q838 : (Jvm.Cond.sameMethod "java/lang/Object" "java/lang/Object" "equals" "(Ljava/lang/Object;)Z") ∈ lw_all := lw_g (lw_at lw_m4 47 rfl) rfl
theorem q864 : (Jvm.Cond.code ({ cls := "java/lang/Object", name := "equals", desc := "(Ljava/lang/Object;)Z" } : Jvm.MethodName) object_method_4_code (2 : Nat) (Option.some Jvm.ClassFile.FieldType.boolean)) ∈ lw_all := lw_g (lw_at lw_m4 73 rfl) rfl
theorem q884 : (Jvm.Cond.instanceMethod ({ cls := "java/lang/Object", name := "getClass", desc := "()Ljava/lang/Class;" } : Jvm.MethodName)) ∈ lw_all := lw_g (lw_at lw_m4 93 rfl) rfl
theorem q885 : (Jvm.Cond.sameMethod "java/lang/Object" "java/lang/Object" "getClass" "()Ljava/lang/Class;") ∈ lw_all := lw_g (lw_at lw_m4 94 rfl) rfl
theorem q906 : (Jvm.Cond.native ({ cls := "java/lang/Object", name := "getClass", desc := "()Ljava/lang/Class;" } : Jvm.MethodName)) ∈ lw_all := lw_g (lw_at lw_m4 115 rfl) rfl
theorem q2076 : (Jvm.Cond.initialized "java/lang/Object") ∈ lw_all := lw_g (lw_at lw_m9 85 rfl) rfl
theorem q2103 : (Jvm.Cond.declares ({ cls := "java/lang/Object", name := "getClass", desc := "()Ljava/lang/Class;" } : Jvm.MethodName)) ∈ lw_tbl := lw_at lw_m9 112 rfl

