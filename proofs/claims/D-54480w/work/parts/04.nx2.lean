/-! DrawerRing$Ring -/
set_option maxRecDepth 100000
def RX2 : String := "DrawerRing$Ring"
def TX2 : u_T := fun k => match k with
  | 0 => ("DrawerRing$Ring", "items", "Ljava/util/ArrayList;", true)
  | 1 => ("DrawerRing$Ring", "byTag", "Ljava/util/HashMap;", true)
  | 2 => ("DrawerRing$Ring", "loads", "[I", true)
  | 3 => ("DrawerRing$Ring", "areJammed", "[Z", true)
  | 4 => ("DrawerRing$Ring", "settings", "[I", true)
  | 5 => ("DrawerRing$Ring", "window", "I", false)
  | 6 => ("DrawerRing$Ring", "numbers", "I", false)
  | 7 => ("DrawerRing$Ring", "up", "I", false)
  | 8 => ("DrawerRing$Ring", "down", "I", false)
  | 9 => ("DrawerRing$Ring", "longer", "I", false)
  | _ => ("DrawerRing$Ring", "picked", "I", false)
def tyX2 : Nat → FieldType := fun k => match k with
  | 0 => .object "java/util/ArrayList"
  | 1 => .object "java/util/HashMap"
  | 2 => .array .int
  | 3 => .array .boolean
  | 4 => .array .int
  | 5 => .int
  | 6 => .int
  | 7 => .int
  | 8 => .int
  | 9 => .int
  | _ => .int
abbrev wsX20 : List Cond := u_ws RX2 TX2 11
theorem nmX2 : ∀ a, a < 11 → ∀ b, b < 11 → a ≠ b → (TX2 a).2.1 ≠ (TX2 b).2.1 := by decide +kernel
theorem tyX2_ok : ∀ k, k < 11 → parseFieldDescriptor (TX2 k).2.2.1 = some (tyX2 k) := by decide +kernel
abbrev cX2_init : ByteArray := prog_5_method_1_code
def yX2_init : MethodName := ⟨RX2, "<init>", "()V"⟩
def dkwX2_init_2 : List UInt8 := [3, 16, 60, 79, 89, 4, 16, 50, 79, 89, 5, 3, 79, 181, 0, 33, 177]
abbrev dktX2_init_2 : List UInt8 := dkwX2_init_2 ++ []
def dkwX2_init_1 : List UInt8 := [181, 0, 21, 42, 16, 12, 188, 10, 181, 0, 25, 42, 16, 12, 188, 4, 181, 0, 29, 42, 6, 188, 10, 89]
abbrev dktX2_init_1 : List UInt8 := dkwX2_init_1 ++ dktX2_init_2
def dkwX2_init_0 : List UInt8 := [42, 183, 0, 3, 42, 187, 0, 9, 89, 183, 0, 11, 181, 0, 12, 42, 187, 0, 18, 89, 183, 0, 20]
abbrev dktX2_init_0 : List UInt8 := dkwX2_init_0 ++ dktX2_init_1
theorem dksX2_init_0 : cX2_init.data.toList.drop 0 = dktX2_init_0 := by decide +kernel
theorem dksX2_init_1 : cX2_init.data.toList.drop 23 = dktX2_init_1 := dk_seg dksX2_init_0 23 rfl rfl
theorem dksX2_init_2 : cX2_init.data.toList.drop 47 = dktX2_init_2 := dk_seg dksX2_init_1 24 rfl rfl
theorem dX2_init_0 : decode cX2_init 0 = .ok (.aload_n 0, 1) := dk_42 (dk_at dksX2_init_0 0 rfl rfl)
theorem dX2_init_1 : decode cX2_init 1 = .ok (.invokespecial 3, 3) := dk_183 0 3 (dk_at dksX2_init_0 1 rfl rfl)
theorem dX2_init_4 : decode cX2_init 4 = .ok (.aload_n 0, 1) := dk_42 (dk_at dksX2_init_0 4 rfl rfl)
theorem dX2_init_5 : decode cX2_init 5 = .ok (.new 9, 3) := dk_187 0 9 (dk_at dksX2_init_0 5 rfl rfl)
theorem dX2_init_8 : decode cX2_init 8 = .ok (.dup, 1) := dk_89 (dk_at dksX2_init_0 8 rfl rfl)
theorem dX2_init_9 : decode cX2_init 9 = .ok (.invokespecial 11, 3) := dk_183 0 11 (dk_at dksX2_init_0 9 rfl rfl)
theorem dX2_init_12 : decode cX2_init 12 = .ok (.putfield 12, 3) := dk_181 0 12 (dk_at dksX2_init_0 12 rfl rfl)
theorem dX2_init_15 : decode cX2_init 15 = .ok (.aload_n 0, 1) := dk_42 (dk_at dksX2_init_0 15 rfl rfl)
theorem dX2_init_16 : decode cX2_init 16 = .ok (.new 18, 3) := dk_187 0 18 (dk_at dksX2_init_0 16 rfl rfl)
theorem dX2_init_19 : decode cX2_init 19 = .ok (.dup, 1) := dk_89 (dk_at dksX2_init_0 19 rfl rfl)
theorem dX2_init_20 : decode cX2_init 20 = .ok (.invokespecial 20, 3) := dk_183 0 20 (dk_at dksX2_init_0 20 rfl rfl)
theorem dX2_init_23 : decode cX2_init 23 = .ok (.putfield 21, 3) := dk_181 0 21 (dk_at dksX2_init_1 0 rfl rfl)
theorem dX2_init_26 : decode cX2_init 26 = .ok (.aload_n 0, 1) := dk_42 (dk_at dksX2_init_1 3 rfl rfl)
theorem dX2_init_27 : decode cX2_init 27 = .ok (.bipush 12, 2) := dk_16 12 (dk_at dksX2_init_1 4 rfl rfl)
theorem dX2_init_29 : decode cX2_init 29 = .ok (.newarray .int, 2) := dk_188_10 (dk_at dksX2_init_1 6 rfl rfl)
theorem dX2_init_31 : decode cX2_init 31 = .ok (.putfield 25, 3) := dk_181 0 25 (dk_at dksX2_init_1 8 rfl rfl)
theorem dX2_init_34 : decode cX2_init 34 = .ok (.aload_n 0, 1) := dk_42 (dk_at dksX2_init_1 11 rfl rfl)
theorem dX2_init_35 : decode cX2_init 35 = .ok (.bipush 12, 2) := dk_16 12 (dk_at dksX2_init_1 12 rfl rfl)
theorem dX2_init_37 : decode cX2_init 37 = .ok (.newarray .boolean, 2) := dk_188_4 (dk_at dksX2_init_1 14 rfl rfl)
theorem dX2_init_39 : decode cX2_init 39 = .ok (.putfield 29, 3) := dk_181 0 29 (dk_at dksX2_init_1 16 rfl rfl)
theorem dX2_init_42 : decode cX2_init 42 = .ok (.aload_n 0, 1) := dk_42 (dk_at dksX2_init_1 19 rfl rfl)
theorem dX2_init_43 : decode cX2_init 43 = .ok (.iconst 3, 1) := dk_6 (dk_at dksX2_init_1 20 rfl rfl)
theorem dX2_init_44 : decode cX2_init 44 = .ok (.newarray .int, 2) := dk_188_10 (dk_at dksX2_init_1 21 rfl rfl)
theorem dX2_init_46 : decode cX2_init 46 = .ok (.dup, 1) := dk_89 (dk_at dksX2_init_1 23 rfl rfl)
theorem dX2_init_47 : decode cX2_init 47 = .ok (.iconst 0, 1) := dk_3 (dk_at dksX2_init_2 0 rfl rfl)
theorem dX2_init_48 : decode cX2_init 48 = .ok (.bipush 60, 2) := dk_16 60 (dk_at dksX2_init_2 1 rfl rfl)
theorem dX2_init_50 : decode cX2_init 50 = .ok (.iastore, 1) := dk_79 (dk_at dksX2_init_2 3 rfl rfl)
theorem dX2_init_51 : decode cX2_init 51 = .ok (.dup, 1) := dk_89 (dk_at dksX2_init_2 4 rfl rfl)
theorem dX2_init_52 : decode cX2_init 52 = .ok (.iconst 1, 1) := dk_4 (dk_at dksX2_init_2 5 rfl rfl)
theorem dX2_init_53 : decode cX2_init 53 = .ok (.bipush 50, 2) := dk_16 50 (dk_at dksX2_init_2 6 rfl rfl)
theorem dX2_init_55 : decode cX2_init 55 = .ok (.iastore, 1) := dk_79 (dk_at dksX2_init_2 8 rfl rfl)
theorem dX2_init_56 : decode cX2_init 56 = .ok (.dup, 1) := dk_89 (dk_at dksX2_init_2 9 rfl rfl)
theorem dX2_init_57 : decode cX2_init 57 = .ok (.iconst 2, 1) := dk_5 (dk_at dksX2_init_2 10 rfl rfl)
theorem dX2_init_58 : decode cX2_init 58 = .ok (.iconst 0, 1) := dk_3 (dk_at dksX2_init_2 11 rfl rfl)
theorem dX2_init_59 : decode cX2_init 59 = .ok (.iastore, 1) := dk_79 (dk_at dksX2_init_2 12 rfl rfl)
theorem dX2_init_60 : decode cX2_init 60 = .ok (.putfield 33, 3) := dk_181 0 33 (dk_at dksX2_init_2 13 rfl rfl)
theorem dX2_init_63 : decode cX2_init 63 = .ok (.return_, 1) := dk_177 (dk_at dksX2_init_2 16 rfl rfl)
abbrev cX2_refusal : ByteArray := prog_5_method_14_code
def yX2_refusal : MethodName := ⟨RX2, "refusal", "(I)I"⟩
def dkwX2_refusal_2 : List UInt8 := [3, 172]
abbrev dktX2_refusal_2 : List UInt8 := dkwX2_refusal_2 ++ []
def dkwX2_refusal_1 : List UInt8 := [153, 0, 7, 5, 167, 0, 21, 42, 44, 180, 0, 58, 182, 0, 131, 16, 99, 160, 0, 7, 6, 167, 0, 4]
abbrev dktX2_refusal_1 : List UInt8 := dkwX2_refusal_1 ++ dktX2_refusal_2
def dkwX2_refusal_0 : List UInt8 := [42, 27, 182, 0, 134, 77, 44, 199, 0, 7, 4, 167, 0, 37, 42, 180, 0, 29, 44, 180, 0, 58, 51]
abbrev dktX2_refusal_0 : List UInt8 := dkwX2_refusal_0 ++ dktX2_refusal_1
theorem dksX2_refusal_0 : cX2_refusal.data.toList.drop 0 = dktX2_refusal_0 := by decide +kernel
theorem dksX2_refusal_1 : cX2_refusal.data.toList.drop 23 = dktX2_refusal_1 := dk_seg dksX2_refusal_0 23 rfl rfl
theorem dksX2_refusal_2 : cX2_refusal.data.toList.drop 47 = dktX2_refusal_2 := dk_seg dksX2_refusal_1 24 rfl rfl
theorem dX2_refusal_0 : decode cX2_refusal 0 = .ok (.aload_n 0, 1) := dk_42 (dk_at dksX2_refusal_0 0 rfl rfl)
theorem dX2_refusal_1 : decode cX2_refusal 1 = .ok (.iload_n 1, 1) := dk_27 (dk_at dksX2_refusal_0 1 rfl rfl)
theorem dX2_refusal_2 : decode cX2_refusal 2 = .ok (.invokevirtual 134, 3) := dk_182 0 134 (dk_at dksX2_refusal_0 2 rfl rfl)
theorem dX2_refusal_5 : decode cX2_refusal 5 = .ok (.astore_n 2, 1) := dk_77 (dk_at dksX2_refusal_0 5 rfl rfl)
theorem dX2_refusal_6 : decode cX2_refusal 6 = .ok (.aload_n 2, 1) := dk_44 (dk_at dksX2_refusal_0 6 rfl rfl)
theorem dX2_refusal_7 : decode cX2_refusal 7 = .ok (.ifnonnull 7, 3) := dk_199 0 7 (dk_at dksX2_refusal_0 7 rfl rfl)
theorem dX2_refusal_10 : decode cX2_refusal 10 = .ok (.iconst 1, 1) := dk_4 (dk_at dksX2_refusal_0 10 rfl rfl)
theorem dX2_refusal_11 : decode cX2_refusal 11 = .ok (.goto 37, 3) := dk_167 0 37 (dk_at dksX2_refusal_0 11 rfl rfl)
theorem dX2_refusal_14 : decode cX2_refusal 14 = .ok (.aload_n 0, 1) := dk_42 (dk_at dksX2_refusal_0 14 rfl rfl)
theorem dX2_refusal_15 : decode cX2_refusal 15 = .ok (.getfield 29, 3) := dk_180 0 29 (dk_at dksX2_refusal_0 15 rfl rfl)
theorem dX2_refusal_18 : decode cX2_refusal 18 = .ok (.aload_n 2, 1) := dk_44 (dk_at dksX2_refusal_0 18 rfl rfl)
theorem dX2_refusal_19 : decode cX2_refusal 19 = .ok (.getfield 58, 3) := dk_180 0 58 (dk_at dksX2_refusal_0 19 rfl rfl)
theorem dX2_refusal_22 : decode cX2_refusal 22 = .ok (.baload, 1) := dk_51 (dk_at dksX2_refusal_0 22 rfl rfl)
theorem dX2_refusal_23 : decode cX2_refusal 23 = .ok (.ifCond .eq 7, 3) := dk_153 0 7 (dk_at dksX2_refusal_1 0 rfl rfl)
theorem dX2_refusal_26 : decode cX2_refusal 26 = .ok (.iconst 2, 1) := dk_5 (dk_at dksX2_refusal_1 3 rfl rfl)
theorem dX2_refusal_27 : decode cX2_refusal 27 = .ok (.goto 21, 3) := dk_167 0 21 (dk_at dksX2_refusal_1 4 rfl rfl)
theorem dX2_refusal_30 : decode cX2_refusal 30 = .ok (.aload_n 0, 1) := dk_42 (dk_at dksX2_refusal_1 7 rfl rfl)
theorem dX2_refusal_31 : decode cX2_refusal 31 = .ok (.aload_n 2, 1) := dk_44 (dk_at dksX2_refusal_1 8 rfl rfl)
theorem dX2_refusal_32 : decode cX2_refusal 32 = .ok (.getfield 58, 3) := dk_180 0 58 (dk_at dksX2_refusal_1 9 rfl rfl)
theorem dX2_refusal_35 : decode cX2_refusal 35 = .ok (.invokevirtual 131, 3) := dk_182 0 131 (dk_at dksX2_refusal_1 12 rfl rfl)
theorem dX2_refusal_38 : decode cX2_refusal 38 = .ok (.bipush 99, 2) := dk_16 99 (dk_at dksX2_refusal_1 15 rfl rfl)
theorem dX2_refusal_40 : decode cX2_refusal 40 = .ok (.if_icmp .ne 7, 3) := dk_160 0 7 (dk_at dksX2_refusal_1 17 rfl rfl)
theorem dX2_refusal_43 : decode cX2_refusal 43 = .ok (.iconst 3, 1) := dk_6 (dk_at dksX2_refusal_1 20 rfl rfl)
theorem dX2_refusal_44 : decode cX2_refusal 44 = .ok (.goto 4, 3) := dk_167 0 4 (dk_at dksX2_refusal_1 21 rfl rfl)
theorem dX2_refusal_47 : decode cX2_refusal 47 = .ok (.iconst 0, 1) := dk_3 (dk_at dksX2_refusal_2 0 rfl rfl)
theorem dX2_refusal_48 : decode cX2_refusal 48 = .ok (.ireturn, 1) := dk_172 (dk_at dksX2_refusal_2 1 rfl rfl)
abbrev cX2_item : ByteArray := prog_5_method_5_code
def yX2_item : MethodName := ⟨RX2, "item", "(I)LDrawerRing$Item;"⟩
def dkwX2_item_1 : List UInt8 := [27, 183, 0, 105, 182, 0, 108, 192, 0, 48, 176]
abbrev dktX2_item_1 : List UInt8 := dkwX2_item_1 ++ []
def dkwX2_item_0 : List UInt8 := [27, 155, 0, 11, 27, 42, 180, 0, 81, 161, 0, 7, 1, 167, 0, 21, 42, 180, 0, 21, 187, 0, 103, 89]
abbrev dktX2_item_0 : List UInt8 := dkwX2_item_0 ++ dktX2_item_1
theorem dksX2_item_0 : cX2_item.data.toList.drop 0 = dktX2_item_0 := by decide +kernel
theorem dksX2_item_1 : cX2_item.data.toList.drop 24 = dktX2_item_1 := dk_seg dksX2_item_0 24 rfl rfl
theorem dX2_item_0 : decode cX2_item 0 = .ok (.iload_n 1, 1) := dk_27 (dk_at dksX2_item_0 0 rfl rfl)
theorem dX2_item_1 : decode cX2_item 1 = .ok (.ifCond .lt 11, 3) := dk_155 0 11 (dk_at dksX2_item_0 1 rfl rfl)
theorem dX2_item_4 : decode cX2_item 4 = .ok (.iload_n 1, 1) := dk_27 (dk_at dksX2_item_0 4 rfl rfl)
theorem dX2_item_5 : decode cX2_item 5 = .ok (.aload_n 0, 1) := dk_42 (dk_at dksX2_item_0 5 rfl rfl)
theorem dX2_item_6 : decode cX2_item 6 = .ok (.getfield 81, 3) := dk_180 0 81 (dk_at dksX2_item_0 6 rfl rfl)
theorem dX2_item_9 : decode cX2_item 9 = .ok (.if_icmp .lt 7, 3) := dk_161 0 7 (dk_at dksX2_item_0 9 rfl rfl)
theorem dX2_item_12 : decode cX2_item 12 = .ok (.aconst_null, 1) := dk_1 (dk_at dksX2_item_0 12 rfl rfl)
theorem dX2_item_13 : decode cX2_item 13 = .ok (.goto 21, 3) := dk_167 0 21 (dk_at dksX2_item_0 13 rfl rfl)
theorem dX2_item_16 : decode cX2_item 16 = .ok (.aload_n 0, 1) := dk_42 (dk_at dksX2_item_0 16 rfl rfl)
theorem dX2_item_17 : decode cX2_item 17 = .ok (.getfield 21, 3) := dk_180 0 21 (dk_at dksX2_item_0 17 rfl rfl)
theorem dX2_item_20 : decode cX2_item 20 = .ok (.new 103, 3) := dk_187 0 103 (dk_at dksX2_item_0 20 rfl rfl)
theorem dX2_item_23 : decode cX2_item 23 = .ok (.dup, 1) := dk_89 (dk_at dksX2_item_0 23 rfl rfl)
theorem dX2_item_24 : decode cX2_item 24 = .ok (.iload_n 1, 1) := dk_27 (dk_at dksX2_item_1 0 rfl rfl)
theorem dX2_item_25 : decode cX2_item 25 = .ok (.invokespecial 105, 3) := dk_183 0 105 (dk_at dksX2_item_1 1 rfl rfl)
theorem dX2_item_28 : decode cX2_item 28 = .ok (.invokevirtual 108, 3) := dk_182 0 108 (dk_at dksX2_item_1 4 rfl rfl)
theorem dX2_item_31 : decode cX2_item 31 = .ok (.checkcast 48, 3) := dk_192 0 48 (dk_at dksX2_item_1 7 rfl rfl)
theorem dX2_item_34 : decode cX2_item 34 = .ok (.areturn, 1) := dk_176 (dk_at dksX2_item_1 10 rfl rfl)
abbrev cX2_way : ByteArray := prog_5_method_12_code
def yX2_way : MethodName := ⟨RX2, "way", "(I)I"⟩
def dkwX2_way_3 : List UInt8 := [167, 0, 5, 16, 99, 172]
abbrev dktX2_way_3 : List UInt8 := dkwX2_way_3 ++ []
def dkwX2_way_2 : List UInt8 := [153, 0, 14, 29, 154, 0, 8, 21, 5, 154, 0, 5, 28, 172, 21, 5, 153, 0, 10, 28, 16, 12, 100]
abbrev dktX2_way_2 : List UInt8 := dkwX2_way_2 ++ dktX2_way_3
def dkwX2_way_1 : List UInt8 := [4, 182, 0, 127, 54, 4, 42, 16, 12, 28, 100, 2, 182, 0, 127, 54, 5, 28, 153, 0, 17, 21, 4]
abbrev dktX2_way_1 : List UInt8 := dkwX2_way_1 ++ dktX2_way_2
def dkwX2_way_0 : List UInt8 := [42, 27, 42, 180, 0, 78, 182, 0, 124, 61, 28, 16, 6, 163, 0, 7, 4, 167, 0, 4, 3, 62, 42, 28]
abbrev dktX2_way_0 : List UInt8 := dkwX2_way_0 ++ dktX2_way_1
theorem dksX2_way_0 : cX2_way.data.toList.drop 0 = dktX2_way_0 := by decide +kernel
theorem dksX2_way_1 : cX2_way.data.toList.drop 24 = dktX2_way_1 := dk_seg dksX2_way_0 24 rfl rfl
theorem dksX2_way_2 : cX2_way.data.toList.drop 47 = dktX2_way_2 := dk_seg dksX2_way_1 23 rfl rfl
theorem dksX2_way_3 : cX2_way.data.toList.drop 70 = dktX2_way_3 := dk_seg dksX2_way_2 23 rfl rfl
theorem dX2_way_0 : decode cX2_way 0 = .ok (.aload_n 0, 1) := dk_42 (dk_at dksX2_way_0 0 rfl rfl)
theorem dX2_way_1 : decode cX2_way 1 = .ok (.iload_n 1, 1) := dk_27 (dk_at dksX2_way_0 1 rfl rfl)
theorem dX2_way_2 : decode cX2_way 2 = .ok (.aload_n 0, 1) := dk_42 (dk_at dksX2_way_0 2 rfl rfl)
theorem dX2_way_3 : decode cX2_way 3 = .ok (.getfield 78, 3) := dk_180 0 78 (dk_at dksX2_way_0 3 rfl rfl)
theorem dX2_way_6 : decode cX2_way 6 = .ok (.invokevirtual 124, 3) := dk_182 0 124 (dk_at dksX2_way_0 6 rfl rfl)
theorem dX2_way_9 : decode cX2_way 9 = .ok (.istore_n 2, 1) := dk_61 (dk_at dksX2_way_0 9 rfl rfl)
theorem dX2_way_10 : decode cX2_way 10 = .ok (.iload_n 2, 1) := dk_28 (dk_at dksX2_way_0 10 rfl rfl)
theorem dX2_way_11 : decode cX2_way 11 = .ok (.bipush 6, 2) := dk_16 6 (dk_at dksX2_way_0 11 rfl rfl)
theorem dX2_way_13 : decode cX2_way 13 = .ok (.if_icmp .gt 7, 3) := dk_163 0 7 (dk_at dksX2_way_0 13 rfl rfl)
theorem dX2_way_16 : decode cX2_way 16 = .ok (.iconst 1, 1) := dk_4 (dk_at dksX2_way_0 16 rfl rfl)
theorem dX2_way_17 : decode cX2_way 17 = .ok (.goto 4, 3) := dk_167 0 4 (dk_at dksX2_way_0 17 rfl rfl)
theorem dX2_way_20 : decode cX2_way 20 = .ok (.iconst 0, 1) := dk_3 (dk_at dksX2_way_0 20 rfl rfl)
theorem dX2_way_21 : decode cX2_way 21 = .ok (.istore_n 3, 1) := dk_62 (dk_at dksX2_way_0 21 rfl rfl)
theorem dX2_way_22 : decode cX2_way 22 = .ok (.aload_n 0, 1) := dk_42 (dk_at dksX2_way_0 22 rfl rfl)
theorem dX2_way_23 : decode cX2_way 23 = .ok (.iload_n 2, 1) := dk_28 (dk_at dksX2_way_0 23 rfl rfl)
theorem dX2_way_24 : decode cX2_way 24 = .ok (.iconst 1, 1) := dk_4 (dk_at dksX2_way_1 0 rfl rfl)
theorem dX2_way_25 : decode cX2_way 25 = .ok (.invokevirtual 127, 3) := dk_182 0 127 (dk_at dksX2_way_1 1 rfl rfl)
theorem dX2_way_28 : decode cX2_way 28 = .ok (.istore 4, 2) := dk_54 4 (dk_at dksX2_way_1 4 rfl rfl)
theorem dX2_way_30 : decode cX2_way 30 = .ok (.aload_n 0, 1) := dk_42 (dk_at dksX2_way_1 6 rfl rfl)
theorem dX2_way_31 : decode cX2_way 31 = .ok (.bipush 12, 2) := dk_16 12 (dk_at dksX2_way_1 7 rfl rfl)
theorem dX2_way_33 : decode cX2_way 33 = .ok (.iload_n 2, 1) := dk_28 (dk_at dksX2_way_1 9 rfl rfl)
theorem dX2_way_34 : decode cX2_way 34 = .ok (.isub, 1) := dk_100 (dk_at dksX2_way_1 10 rfl rfl)
theorem dX2_way_35 : decode cX2_way 35 = .ok (.iconst (-1), 1) := dk_2 (dk_at dksX2_way_1 11 rfl rfl)
theorem dX2_way_36 : decode cX2_way 36 = .ok (.invokevirtual 127, 3) := dk_182 0 127 (dk_at dksX2_way_1 12 rfl rfl)
theorem dX2_way_39 : decode cX2_way 39 = .ok (.istore 5, 2) := dk_54 5 (dk_at dksX2_way_1 15 rfl rfl)
theorem dX2_way_41 : decode cX2_way 41 = .ok (.iload_n 2, 1) := dk_28 (dk_at dksX2_way_1 17 rfl rfl)
theorem dX2_way_42 : decode cX2_way 42 = .ok (.ifCond .eq 17, 3) := dk_153 0 17 (dk_at dksX2_way_1 18 rfl rfl)
theorem dX2_way_45 : decode cX2_way 45 = .ok (.iload 4, 2) := dk_21 4 (dk_at dksX2_way_1 21 rfl rfl)
theorem dX2_way_47 : decode cX2_way 47 = .ok (.ifCond .eq 14, 3) := dk_153 0 14 (dk_at dksX2_way_2 0 rfl rfl)
theorem dX2_way_50 : decode cX2_way 50 = .ok (.iload_n 3, 1) := dk_29 (dk_at dksX2_way_2 3 rfl rfl)
theorem dX2_way_51 : decode cX2_way 51 = .ok (.ifCond .ne 8, 3) := dk_154 0 8 (dk_at dksX2_way_2 4 rfl rfl)
theorem dX2_way_54 : decode cX2_way 54 = .ok (.iload 5, 2) := dk_21 5 (dk_at dksX2_way_2 7 rfl rfl)
theorem dX2_way_56 : decode cX2_way 56 = .ok (.ifCond .ne 5, 3) := dk_154 0 5 (dk_at dksX2_way_2 9 rfl rfl)
theorem dX2_way_59 : decode cX2_way 59 = .ok (.iload_n 2, 1) := dk_28 (dk_at dksX2_way_2 12 rfl rfl)
theorem dX2_way_60 : decode cX2_way 60 = .ok (.ireturn, 1) := dk_172 (dk_at dksX2_way_2 13 rfl rfl)
theorem dX2_way_61 : decode cX2_way 61 = .ok (.iload 5, 2) := dk_21 5 (dk_at dksX2_way_2 14 rfl rfl)
theorem dX2_way_63 : decode cX2_way 63 = .ok (.ifCond .eq 10, 3) := dk_153 0 10 (dk_at dksX2_way_2 16 rfl rfl)
theorem dX2_way_66 : decode cX2_way 66 = .ok (.iload_n 2, 1) := dk_28 (dk_at dksX2_way_2 19 rfl rfl)
theorem dX2_way_67 : decode cX2_way 67 = .ok (.bipush 12, 2) := dk_16 12 (dk_at dksX2_way_2 20 rfl rfl)
theorem dX2_way_69 : decode cX2_way 69 = .ok (.isub, 1) := dk_100 (dk_at dksX2_way_2 22 rfl rfl)
theorem dX2_way_70 : decode cX2_way 70 = .ok (.goto 5, 3) := dk_167 0 5 (dk_at dksX2_way_3 0 rfl rfl)
theorem dX2_way_73 : decode cX2_way 73 = .ok (.bipush 99, 2) := dk_16 99 (dk_at dksX2_way_3 3 rfl rfl)
theorem dX2_way_75 : decode cX2_way 75 = .ok (.ireturn, 1) := dk_172 (dk_at dksX2_way_3 5 rfl rfl)
abbrev cX2_place : ByteArray := prog_5_method_7_code
def yX2_place : MethodName := ⟨RX2, "place", "(II)I"⟩
def dkwX2_place_0 : List UInt8 := [27, 28, 100, 16, 12, 96, 16, 12, 112, 172]
abbrev dktX2_place_0 : List UInt8 := dkwX2_place_0 ++ []
theorem dksX2_place_0 : cX2_place.data.toList.drop 0 = dktX2_place_0 := by decide +kernel
theorem dX2_place_0 : decode cX2_place 0 = .ok (.iload_n 1, 1) := dk_27 (dk_at dksX2_place_0 0 rfl rfl)
theorem dX2_place_1 : decode cX2_place 1 = .ok (.iload_n 2, 1) := dk_28 (dk_at dksX2_place_0 1 rfl rfl)
theorem dX2_place_2 : decode cX2_place 2 = .ok (.isub, 1) := dk_100 (dk_at dksX2_place_0 2 rfl rfl)
theorem dX2_place_3 : decode cX2_place 3 = .ok (.bipush 12, 2) := dk_16 12 (dk_at dksX2_place_0 3 rfl rfl)
theorem dX2_place_5 : decode cX2_place 5 = .ok (.iadd, 1) := dk_96 (dk_at dksX2_place_0 5 rfl rfl)
theorem dX2_place_6 : decode cX2_place 6 = .ok (.bipush 12, 2) := dk_16 12 (dk_at dksX2_place_0 6 rfl rfl)
theorem dX2_place_8 : decode cX2_place 8 = .ok (.irem, 1) := dk_112 (dk_at dksX2_place_0 8 rfl rfl)
theorem dX2_place_9 : decode cX2_place 9 = .ok (.ireturn, 1) := dk_172 (dk_at dksX2_place_0 9 rfl rfl)
abbrev cX2_isOpen : ByteArray := prog_5_method_11_code
def yX2_isOpen : MethodName := ⟨RX2, "isOpen", "(II)Z"⟩
def dkwX2_isOpen_2 : List UInt8 := [62, 132, 4, 1, 167, 255, 209, 29, 172]
abbrev dktX2_isOpen_2 : List UInt8 := dkwX2_isOpen_2 ++ []
def dkwX2_isOpen_1 : List UInt8 := [96, 16, 24, 96, 16, 12, 112, 182, 0, 117, 42, 180, 0, 33, 3, 46, 163, 0, 7, 4, 167, 0, 4, 3]
abbrev dktX2_isOpen_1 : List UInt8 := dkwX2_isOpen_1 ++ dktX2_isOpen_2
def dkwX2_isOpen_0 : List UInt8 := [4, 62, 4, 54, 4, 21, 4, 27, 163, 0, 47, 29, 153, 0, 43, 42, 42, 180, 0, 78, 28, 21, 4, 104]
abbrev dktX2_isOpen_0 : List UInt8 := dkwX2_isOpen_0 ++ dktX2_isOpen_1
theorem dksX2_isOpen_0 : cX2_isOpen.data.toList.drop 0 = dktX2_isOpen_0 := by decide +kernel
theorem dksX2_isOpen_1 : cX2_isOpen.data.toList.drop 24 = dktX2_isOpen_1 := dk_seg dksX2_isOpen_0 24 rfl rfl
theorem dksX2_isOpen_2 : cX2_isOpen.data.toList.drop 48 = dktX2_isOpen_2 := dk_seg dksX2_isOpen_1 24 rfl rfl
theorem dX2_isOpen_0 : decode cX2_isOpen 0 = .ok (.iconst 1, 1) := dk_4 (dk_at dksX2_isOpen_0 0 rfl rfl)
theorem dX2_isOpen_1 : decode cX2_isOpen 1 = .ok (.istore_n 3, 1) := dk_62 (dk_at dksX2_isOpen_0 1 rfl rfl)
theorem dX2_isOpen_2 : decode cX2_isOpen 2 = .ok (.iconst 1, 1) := dk_4 (dk_at dksX2_isOpen_0 2 rfl rfl)
theorem dX2_isOpen_3 : decode cX2_isOpen 3 = .ok (.istore 4, 2) := dk_54 4 (dk_at dksX2_isOpen_0 3 rfl rfl)
theorem dX2_isOpen_5 : decode cX2_isOpen 5 = .ok (.iload 4, 2) := dk_21 4 (dk_at dksX2_isOpen_0 5 rfl rfl)
theorem dX2_isOpen_7 : decode cX2_isOpen 7 = .ok (.iload_n 1, 1) := dk_27 (dk_at dksX2_isOpen_0 7 rfl rfl)
theorem dX2_isOpen_8 : decode cX2_isOpen 8 = .ok (.if_icmp .gt 47, 3) := dk_163 0 47 (dk_at dksX2_isOpen_0 8 rfl rfl)
theorem dX2_isOpen_11 : decode cX2_isOpen 11 = .ok (.iload_n 3, 1) := dk_29 (dk_at dksX2_isOpen_0 11 rfl rfl)
theorem dX2_isOpen_12 : decode cX2_isOpen 12 = .ok (.ifCond .eq 43, 3) := dk_153 0 43 (dk_at dksX2_isOpen_0 12 rfl rfl)
theorem dX2_isOpen_15 : decode cX2_isOpen 15 = .ok (.aload_n 0, 1) := dk_42 (dk_at dksX2_isOpen_0 15 rfl rfl)
theorem dX2_isOpen_16 : decode cX2_isOpen 16 = .ok (.aload_n 0, 1) := dk_42 (dk_at dksX2_isOpen_0 16 rfl rfl)
theorem dX2_isOpen_17 : decode cX2_isOpen 17 = .ok (.getfield 78, 3) := dk_180 0 78 (dk_at dksX2_isOpen_0 17 rfl rfl)
theorem dX2_isOpen_20 : decode cX2_isOpen 20 = .ok (.iload_n 2, 1) := dk_28 (dk_at dksX2_isOpen_0 20 rfl rfl)
theorem dX2_isOpen_21 : decode cX2_isOpen 21 = .ok (.iload 4, 2) := dk_21 4 (dk_at dksX2_isOpen_0 21 rfl rfl)
theorem dX2_isOpen_23 : decode cX2_isOpen 23 = .ok (.imul, 1) := dk_104 (dk_at dksX2_isOpen_0 23 rfl rfl)
theorem dX2_isOpen_24 : decode cX2_isOpen 24 = .ok (.iadd, 1) := dk_96 (dk_at dksX2_isOpen_1 0 rfl rfl)
theorem dX2_isOpen_25 : decode cX2_isOpen 25 = .ok (.bipush 24, 2) := dk_16 24 (dk_at dksX2_isOpen_1 1 rfl rfl)
theorem dX2_isOpen_27 : decode cX2_isOpen 27 = .ok (.iadd, 1) := dk_96 (dk_at dksX2_isOpen_1 3 rfl rfl)
theorem dX2_isOpen_28 : decode cX2_isOpen 28 = .ok (.bipush 12, 2) := dk_16 12 (dk_at dksX2_isOpen_1 4 rfl rfl)
theorem dX2_isOpen_30 : decode cX2_isOpen 30 = .ok (.irem, 1) := dk_112 (dk_at dksX2_isOpen_1 6 rfl rfl)
theorem dX2_isOpen_31 : decode cX2_isOpen 31 = .ok (.invokevirtual 117, 3) := dk_182 0 117 (dk_at dksX2_isOpen_1 7 rfl rfl)
theorem dX2_isOpen_34 : decode cX2_isOpen 34 = .ok (.aload_n 0, 1) := dk_42 (dk_at dksX2_isOpen_1 10 rfl rfl)
theorem dX2_isOpen_35 : decode cX2_isOpen 35 = .ok (.getfield 33, 3) := dk_180 0 33 (dk_at dksX2_isOpen_1 11 rfl rfl)
theorem dX2_isOpen_38 : decode cX2_isOpen 38 = .ok (.iconst 0, 1) := dk_3 (dk_at dksX2_isOpen_1 14 rfl rfl)
theorem dX2_isOpen_39 : decode cX2_isOpen 39 = .ok (.iaload, 1) := dk_46 (dk_at dksX2_isOpen_1 15 rfl rfl)
theorem dX2_isOpen_40 : decode cX2_isOpen 40 = .ok (.if_icmp .gt 7, 3) := dk_163 0 7 (dk_at dksX2_isOpen_1 16 rfl rfl)
theorem dX2_isOpen_43 : decode cX2_isOpen 43 = .ok (.iconst 1, 1) := dk_4 (dk_at dksX2_isOpen_1 19 rfl rfl)
theorem dX2_isOpen_44 : decode cX2_isOpen 44 = .ok (.goto 4, 3) := dk_167 0 4 (dk_at dksX2_isOpen_1 20 rfl rfl)
theorem dX2_isOpen_47 : decode cX2_isOpen 47 = .ok (.iconst 0, 1) := dk_3 (dk_at dksX2_isOpen_1 23 rfl rfl)
theorem dX2_isOpen_48 : decode cX2_isOpen 48 = .ok (.istore_n 3, 1) := dk_62 (dk_at dksX2_isOpen_2 0 rfl rfl)
theorem dX2_isOpen_49 : decode cX2_isOpen 49 = .ok (.iinc 4 1, 3) := dk_132 4 1 (dk_at dksX2_isOpen_2 1 rfl rfl)
theorem dX2_isOpen_52 : decode cX2_isOpen 52 = .ok (.goto (-47), 3) := dk_167 255 209 (dk_at dksX2_isOpen_2 4 rfl rfl)
theorem dX2_isOpen_55 : decode cX2_isOpen 55 = .ok (.iload_n 3, 1) := dk_29 (dk_at dksX2_isOpen_2 7 rfl rfl)
theorem dX2_isOpen_56 : decode cX2_isOpen 56 = .ok (.ireturn, 1) := dk_172 (dk_at dksX2_isOpen_2 8 rfl rfl)
abbrev cX2_imbalance : ByteArray := prog_5_method_8_code
def yX2_imbalance : MethodName := ⟨RX2, "imbalance", "(I)I"⟩
def dkwX2_imbalance_2 : List UInt8 := [184, 0, 111, 172]
abbrev dktX2_imbalance_2 : List UInt8 := dkwX2_imbalance_2 ++ []
def dkwX2_imbalance_1 : List UInt8 := [180, 0, 25, 27, 16, 6, 96, 29, 96, 16, 12, 112, 46, 100, 96, 61, 132, 3, 1, 167, 255, 219, 28]
abbrev dktX2_imbalance_1 : List UInt8 := dkwX2_imbalance_1 ++ dktX2_imbalance_2
def dkwX2_imbalance_0 : List UInt8 := [3, 61, 4, 62, 29, 8, 163, 0, 38, 28, 42, 180, 0, 25, 27, 29, 96, 16, 12, 112, 46, 42]
abbrev dktX2_imbalance_0 : List UInt8 := dkwX2_imbalance_0 ++ dktX2_imbalance_1
theorem dksX2_imbalance_0 : cX2_imbalance.data.toList.drop 0 = dktX2_imbalance_0 := by decide +kernel
theorem dksX2_imbalance_1 : cX2_imbalance.data.toList.drop 22 = dktX2_imbalance_1 := dk_seg dksX2_imbalance_0 22 rfl rfl
theorem dksX2_imbalance_2 : cX2_imbalance.data.toList.drop 45 = dktX2_imbalance_2 := dk_seg dksX2_imbalance_1 23 rfl rfl
theorem dX2_imbalance_0 : decode cX2_imbalance 0 = .ok (.iconst 0, 1) := dk_3 (dk_at dksX2_imbalance_0 0 rfl rfl)
theorem dX2_imbalance_1 : decode cX2_imbalance 1 = .ok (.istore_n 2, 1) := dk_61 (dk_at dksX2_imbalance_0 1 rfl rfl)
theorem dX2_imbalance_2 : decode cX2_imbalance 2 = .ok (.iconst 1, 1) := dk_4 (dk_at dksX2_imbalance_0 2 rfl rfl)
theorem dX2_imbalance_3 : decode cX2_imbalance 3 = .ok (.istore_n 3, 1) := dk_62 (dk_at dksX2_imbalance_0 3 rfl rfl)
theorem dX2_imbalance_4 : decode cX2_imbalance 4 = .ok (.iload_n 3, 1) := dk_29 (dk_at dksX2_imbalance_0 4 rfl rfl)
theorem dX2_imbalance_5 : decode cX2_imbalance 5 = .ok (.iconst 5, 1) := dk_8 (dk_at dksX2_imbalance_0 5 rfl rfl)
theorem dX2_imbalance_6 : decode cX2_imbalance 6 = .ok (.if_icmp .gt 38, 3) := dk_163 0 38 (dk_at dksX2_imbalance_0 6 rfl rfl)
theorem dX2_imbalance_9 : decode cX2_imbalance 9 = .ok (.iload_n 2, 1) := dk_28 (dk_at dksX2_imbalance_0 9 rfl rfl)
theorem dX2_imbalance_10 : decode cX2_imbalance 10 = .ok (.aload_n 0, 1) := dk_42 (dk_at dksX2_imbalance_0 10 rfl rfl)
theorem dX2_imbalance_11 : decode cX2_imbalance 11 = .ok (.getfield 25, 3) := dk_180 0 25 (dk_at dksX2_imbalance_0 11 rfl rfl)
theorem dX2_imbalance_14 : decode cX2_imbalance 14 = .ok (.iload_n 1, 1) := dk_27 (dk_at dksX2_imbalance_0 14 rfl rfl)
theorem dX2_imbalance_15 : decode cX2_imbalance 15 = .ok (.iload_n 3, 1) := dk_29 (dk_at dksX2_imbalance_0 15 rfl rfl)
theorem dX2_imbalance_16 : decode cX2_imbalance 16 = .ok (.iadd, 1) := dk_96 (dk_at dksX2_imbalance_0 16 rfl rfl)
theorem dX2_imbalance_17 : decode cX2_imbalance 17 = .ok (.bipush 12, 2) := dk_16 12 (dk_at dksX2_imbalance_0 17 rfl rfl)
theorem dX2_imbalance_19 : decode cX2_imbalance 19 = .ok (.irem, 1) := dk_112 (dk_at dksX2_imbalance_0 19 rfl rfl)
theorem dX2_imbalance_20 : decode cX2_imbalance 20 = .ok (.iaload, 1) := dk_46 (dk_at dksX2_imbalance_0 20 rfl rfl)
theorem dX2_imbalance_21 : decode cX2_imbalance 21 = .ok (.aload_n 0, 1) := dk_42 (dk_at dksX2_imbalance_0 21 rfl rfl)
theorem dX2_imbalance_22 : decode cX2_imbalance 22 = .ok (.getfield 25, 3) := dk_180 0 25 (dk_at dksX2_imbalance_1 0 rfl rfl)
theorem dX2_imbalance_25 : decode cX2_imbalance 25 = .ok (.iload_n 1, 1) := dk_27 (dk_at dksX2_imbalance_1 3 rfl rfl)
theorem dX2_imbalance_26 : decode cX2_imbalance 26 = .ok (.bipush 6, 2) := dk_16 6 (dk_at dksX2_imbalance_1 4 rfl rfl)
theorem dX2_imbalance_28 : decode cX2_imbalance 28 = .ok (.iadd, 1) := dk_96 (dk_at dksX2_imbalance_1 6 rfl rfl)
theorem dX2_imbalance_29 : decode cX2_imbalance 29 = .ok (.iload_n 3, 1) := dk_29 (dk_at dksX2_imbalance_1 7 rfl rfl)
theorem dX2_imbalance_30 : decode cX2_imbalance 30 = .ok (.iadd, 1) := dk_96 (dk_at dksX2_imbalance_1 8 rfl rfl)
theorem dX2_imbalance_31 : decode cX2_imbalance 31 = .ok (.bipush 12, 2) := dk_16 12 (dk_at dksX2_imbalance_1 9 rfl rfl)
theorem dX2_imbalance_33 : decode cX2_imbalance 33 = .ok (.irem, 1) := dk_112 (dk_at dksX2_imbalance_1 11 rfl rfl)
theorem dX2_imbalance_34 : decode cX2_imbalance 34 = .ok (.iaload, 1) := dk_46 (dk_at dksX2_imbalance_1 12 rfl rfl)
theorem dX2_imbalance_35 : decode cX2_imbalance 35 = .ok (.isub, 1) := dk_100 (dk_at dksX2_imbalance_1 13 rfl rfl)
theorem dX2_imbalance_36 : decode cX2_imbalance 36 = .ok (.iadd, 1) := dk_96 (dk_at dksX2_imbalance_1 14 rfl rfl)
theorem dX2_imbalance_37 : decode cX2_imbalance 37 = .ok (.istore_n 2, 1) := dk_61 (dk_at dksX2_imbalance_1 15 rfl rfl)
theorem dX2_imbalance_38 : decode cX2_imbalance 38 = .ok (.iinc 3 1, 3) := dk_132 3 1 (dk_at dksX2_imbalance_1 16 rfl rfl)
theorem dX2_imbalance_41 : decode cX2_imbalance 41 = .ok (.goto (-37), 3) := dk_167 255 219 (dk_at dksX2_imbalance_1 19 rfl rfl)
theorem dX2_imbalance_44 : decode cX2_imbalance 44 = .ok (.iload_n 2, 1) := dk_28 (dk_at dksX2_imbalance_1 22 rfl rfl)
theorem dX2_imbalance_45 : decode cX2_imbalance 45 = .ok (.invokestatic 111, 3) := dk_184 0 111 (dk_at dksX2_imbalance_2 0 rfl rfl)
theorem dX2_imbalance_48 : decode cX2_imbalance 48 = .ok (.ireturn, 1) := dk_172 (dk_at dksX2_imbalance_2 3 rfl rfl)
abbrev cX2_worst : ByteArray := prog_5_method_10_code
def yX2_worst : MethodName := ⟨RX2, "worst", "()I"⟩
def dkwX2_worst_1 : List UInt8 := [167, 255, 237, 27, 172]
abbrev dktX2_worst_1 : List UInt8 := dkwX2_worst_1 ++ []
def dkwX2_worst_0 : List UInt8 := [3, 60, 3, 61, 28, 16, 12, 162, 0, 19, 27, 42, 28, 182, 0, 117, 184, 0, 120, 60, 132, 2, 1]
abbrev dktX2_worst_0 : List UInt8 := dkwX2_worst_0 ++ dktX2_worst_1
theorem dksX2_worst_0 : cX2_worst.data.toList.drop 0 = dktX2_worst_0 := by decide +kernel
theorem dksX2_worst_1 : cX2_worst.data.toList.drop 23 = dktX2_worst_1 := dk_seg dksX2_worst_0 23 rfl rfl
theorem dX2_worst_0 : decode cX2_worst 0 = .ok (.iconst 0, 1) := dk_3 (dk_at dksX2_worst_0 0 rfl rfl)
theorem dX2_worst_1 : decode cX2_worst 1 = .ok (.istore_n 1, 1) := dk_60 (dk_at dksX2_worst_0 1 rfl rfl)
theorem dX2_worst_2 : decode cX2_worst 2 = .ok (.iconst 0, 1) := dk_3 (dk_at dksX2_worst_0 2 rfl rfl)
theorem dX2_worst_3 : decode cX2_worst 3 = .ok (.istore_n 2, 1) := dk_61 (dk_at dksX2_worst_0 3 rfl rfl)
theorem dX2_worst_4 : decode cX2_worst 4 = .ok (.iload_n 2, 1) := dk_28 (dk_at dksX2_worst_0 4 rfl rfl)
theorem dX2_worst_5 : decode cX2_worst 5 = .ok (.bipush 12, 2) := dk_16 12 (dk_at dksX2_worst_0 5 rfl rfl)
theorem dX2_worst_7 : decode cX2_worst 7 = .ok (.if_icmp .ge 19, 3) := dk_162 0 19 (dk_at dksX2_worst_0 7 rfl rfl)
theorem dX2_worst_10 : decode cX2_worst 10 = .ok (.iload_n 1, 1) := dk_27 (dk_at dksX2_worst_0 10 rfl rfl)
theorem dX2_worst_11 : decode cX2_worst 11 = .ok (.aload_n 0, 1) := dk_42 (dk_at dksX2_worst_0 11 rfl rfl)
theorem dX2_worst_12 : decode cX2_worst 12 = .ok (.iload_n 2, 1) := dk_28 (dk_at dksX2_worst_0 12 rfl rfl)
theorem dX2_worst_13 : decode cX2_worst 13 = .ok (.invokevirtual 117, 3) := dk_182 0 117 (dk_at dksX2_worst_0 13 rfl rfl)
theorem dX2_worst_16 : decode cX2_worst 16 = .ok (.invokestatic 120, 3) := dk_184 0 120 (dk_at dksX2_worst_0 16 rfl rfl)
theorem dX2_worst_19 : decode cX2_worst 19 = .ok (.istore_n 1, 1) := dk_60 (dk_at dksX2_worst_0 19 rfl rfl)
theorem dX2_worst_20 : decode cX2_worst 20 = .ok (.iinc 2 1, 3) := dk_132 2 1 (dk_at dksX2_worst_0 20 rfl rfl)
theorem dX2_worst_23 : decode cX2_worst 23 = .ok (.goto (-19), 3) := dk_167 255 237 (dk_at dksX2_worst_1 0 rfl rfl)
theorem dX2_worst_26 : decode cX2_worst 26 = .ok (.iload_n 1, 1) := dk_27 (dk_at dksX2_worst_1 3 rfl rfl)
theorem dX2_worst_27 : decode cX2_worst 27 = .ok (.ireturn, 1) := dk_172 (dk_at dksX2_worst_1 4 rfl rfl)
abbrev cX2_steps : ByteArray := prog_5_method_16_code
def yX2_steps : MethodName := ⟨RX2, "steps", "()I"⟩
def dkwX2_steps_0 : List UInt8 := [42, 180, 0, 84, 42, 180, 0, 87, 96, 172]
abbrev dktX2_steps_0 : List UInt8 := dkwX2_steps_0 ++ []
theorem dksX2_steps_0 : cX2_steps.data.toList.drop 0 = dktX2_steps_0 := by decide +kernel
theorem dX2_steps_0 : decode cX2_steps 0 = .ok (.aload_n 0, 1) := dk_42 (dk_at dksX2_steps_0 0 rfl rfl)
theorem dX2_steps_1 : decode cX2_steps 1 = .ok (.getfield 84, 3) := dk_180 0 84 (dk_at dksX2_steps_0 1 rfl rfl)
theorem dX2_steps_4 : decode cX2_steps 4 = .ok (.aload_n 0, 1) := dk_42 (dk_at dksX2_steps_0 4 rfl rfl)
theorem dX2_steps_5 : decode cX2_steps 5 = .ok (.getfield 87, 3) := dk_180 0 87 (dk_at dksX2_steps_0 5 rfl rfl)
theorem dX2_steps_8 : decode cX2_steps 8 = .ok (.iadd, 1) := dk_96 (dk_at dksX2_steps_0 8 rfl rfl)
theorem dX2_steps_9 : decode cX2_steps 9 = .ok (.ireturn, 1) := dk_172 (dk_at dksX2_steps_0 9 rfl rfl)
abbrev cX2_become : ByteArray := prog_5_method_2_code
def yX2_become : MethodName := ⟨RX2, "become", "(LDrawerRing$Ring;)V"⟩
def dkwX2_become_4 : List UInt8 := [184, 0, 68, 43, 180, 0, 33, 3, 42, 180, 0, 33, 3, 6, 184, 0, 68, 42, 43, 182, 0, 74, 177]
abbrev dktX2_become_4 : List UInt8 := dkwX2_become_4 ++ []
def dkwX2_become_3 : List UInt8 := [3, 42, 180, 0, 25, 3, 16, 12, 184, 0, 68, 43, 180, 0, 29, 3, 42, 180, 0, 29, 3, 16, 12]
abbrev dktX2_become_3 : List UInt8 := dkwX2_become_3 ++ dktX2_become_4
def dkwX2_become_2 : List UInt8 := [45, 180, 0, 54, 45, 180, 0, 58, 183, 0, 61, 182, 0, 64, 132, 2, 1, 167, 255, 207, 43, 180, 0, 25]
abbrev dktX2_become_2 : List UInt8 := dkwX2_become_2 ++ dktX2_become_3
def dkwX2_become_1 : List UInt8 := [162, 0, 44, 43, 180, 0, 12, 28, 182, 0, 44, 192, 0, 48, 78, 42, 187, 0, 48, 89, 45, 180, 0, 50]
abbrev dktX2_become_1 : List UInt8 := dkwX2_become_1 ++ dktX2_become_2
def dkwX2_become_0 : List UInt8 := [42, 180, 0, 12, 182, 0, 36, 42, 180, 0, 21, 182, 0, 39, 3, 61, 28, 43, 180, 0, 12, 182, 0, 40]
abbrev dktX2_become_0 : List UInt8 := dkwX2_become_0 ++ dktX2_become_1
theorem dksX2_become_0 : cX2_become.data.toList.drop 0 = dktX2_become_0 := by decide +kernel
theorem dksX2_become_1 : cX2_become.data.toList.drop 24 = dktX2_become_1 := dk_seg dksX2_become_0 24 rfl rfl
theorem dksX2_become_2 : cX2_become.data.toList.drop 48 = dktX2_become_2 := dk_seg dksX2_become_1 24 rfl rfl
theorem dksX2_become_3 : cX2_become.data.toList.drop 72 = dktX2_become_3 := dk_seg dksX2_become_2 24 rfl rfl
theorem dksX2_become_4 : cX2_become.data.toList.drop 95 = dktX2_become_4 := dk_seg dksX2_become_3 23 rfl rfl
theorem dX2_become_0 : decode cX2_become 0 = .ok (.aload_n 0, 1) := dk_42 (dk_at dksX2_become_0 0 rfl rfl)
theorem dX2_become_1 : decode cX2_become 1 = .ok (.getfield 12, 3) := dk_180 0 12 (dk_at dksX2_become_0 1 rfl rfl)
theorem dX2_become_4 : decode cX2_become 4 = .ok (.invokevirtual 36, 3) := dk_182 0 36 (dk_at dksX2_become_0 4 rfl rfl)
theorem dX2_become_7 : decode cX2_become 7 = .ok (.aload_n 0, 1) := dk_42 (dk_at dksX2_become_0 7 rfl rfl)
theorem dX2_become_8 : decode cX2_become 8 = .ok (.getfield 21, 3) := dk_180 0 21 (dk_at dksX2_become_0 8 rfl rfl)
theorem dX2_become_11 : decode cX2_become 11 = .ok (.invokevirtual 39, 3) := dk_182 0 39 (dk_at dksX2_become_0 11 rfl rfl)
theorem dX2_become_14 : decode cX2_become 14 = .ok (.iconst 0, 1) := dk_3 (dk_at dksX2_become_0 14 rfl rfl)
theorem dX2_become_15 : decode cX2_become 15 = .ok (.istore_n 2, 1) := dk_61 (dk_at dksX2_become_0 15 rfl rfl)
theorem dX2_become_16 : decode cX2_become 16 = .ok (.iload_n 2, 1) := dk_28 (dk_at dksX2_become_0 16 rfl rfl)
theorem dX2_become_17 : decode cX2_become 17 = .ok (.aload_n 1, 1) := dk_43 (dk_at dksX2_become_0 17 rfl rfl)
theorem dX2_become_18 : decode cX2_become 18 = .ok (.getfield 12, 3) := dk_180 0 12 (dk_at dksX2_become_0 18 rfl rfl)
theorem dX2_become_21 : decode cX2_become 21 = .ok (.invokevirtual 40, 3) := dk_182 0 40 (dk_at dksX2_become_0 21 rfl rfl)
theorem dX2_become_24 : decode cX2_become 24 = .ok (.if_icmp .ge 44, 3) := dk_162 0 44 (dk_at dksX2_become_1 0 rfl rfl)
theorem dX2_become_27 : decode cX2_become 27 = .ok (.aload_n 1, 1) := dk_43 (dk_at dksX2_become_1 3 rfl rfl)
theorem dX2_become_28 : decode cX2_become 28 = .ok (.getfield 12, 3) := dk_180 0 12 (dk_at dksX2_become_1 4 rfl rfl)
theorem dX2_become_31 : decode cX2_become 31 = .ok (.iload_n 2, 1) := dk_28 (dk_at dksX2_become_1 7 rfl rfl)
theorem dX2_become_32 : decode cX2_become 32 = .ok (.invokevirtual 44, 3) := dk_182 0 44 (dk_at dksX2_become_1 8 rfl rfl)
theorem dX2_become_35 : decode cX2_become 35 = .ok (.checkcast 48, 3) := dk_192 0 48 (dk_at dksX2_become_1 11 rfl rfl)
theorem dX2_become_38 : decode cX2_become 38 = .ok (.astore_n 3, 1) := dk_78 (dk_at dksX2_become_1 14 rfl rfl)
theorem dX2_become_39 : decode cX2_become 39 = .ok (.aload_n 0, 1) := dk_42 (dk_at dksX2_become_1 15 rfl rfl)
theorem dX2_become_40 : decode cX2_become 40 = .ok (.new 48, 3) := dk_187 0 48 (dk_at dksX2_become_1 16 rfl rfl)
theorem dX2_become_43 : decode cX2_become 43 = .ok (.dup, 1) := dk_89 (dk_at dksX2_become_1 19 rfl rfl)
theorem dX2_become_44 : decode cX2_become 44 = .ok (.aload_n 3, 1) := dk_45 (dk_at dksX2_become_1 20 rfl rfl)
theorem dX2_become_45 : decode cX2_become 45 = .ok (.getfield 50, 3) := dk_180 0 50 (dk_at dksX2_become_1 21 rfl rfl)
theorem dX2_become_48 : decode cX2_become 48 = .ok (.aload_n 3, 1) := dk_45 (dk_at dksX2_become_2 0 rfl rfl)
theorem dX2_become_49 : decode cX2_become 49 = .ok (.getfield 54, 3) := dk_180 0 54 (dk_at dksX2_become_2 1 rfl rfl)
theorem dX2_become_52 : decode cX2_become 52 = .ok (.aload_n 3, 1) := dk_45 (dk_at dksX2_become_2 4 rfl rfl)
theorem dX2_become_53 : decode cX2_become 53 = .ok (.getfield 58, 3) := dk_180 0 58 (dk_at dksX2_become_2 5 rfl rfl)
theorem dX2_become_56 : decode cX2_become 56 = .ok (.invokespecial 61, 3) := dk_183 0 61 (dk_at dksX2_become_2 8 rfl rfl)
theorem dX2_become_59 : decode cX2_become 59 = .ok (.invokevirtual 64, 3) := dk_182 0 64 (dk_at dksX2_become_2 11 rfl rfl)
theorem dX2_become_62 : decode cX2_become 62 = .ok (.iinc 2 1, 3) := dk_132 2 1 (dk_at dksX2_become_2 14 rfl rfl)
theorem dX2_become_65 : decode cX2_become 65 = .ok (.goto (-49), 3) := dk_167 255 207 (dk_at dksX2_become_2 17 rfl rfl)
theorem dX2_become_68 : decode cX2_become 68 = .ok (.aload_n 1, 1) := dk_43 (dk_at dksX2_become_2 20 rfl rfl)
theorem dX2_become_69 : decode cX2_become 69 = .ok (.getfield 25, 3) := dk_180 0 25 (dk_at dksX2_become_2 21 rfl rfl)
theorem dX2_become_72 : decode cX2_become 72 = .ok (.iconst 0, 1) := dk_3 (dk_at dksX2_become_3 0 rfl rfl)
theorem dX2_become_73 : decode cX2_become 73 = .ok (.aload_n 0, 1) := dk_42 (dk_at dksX2_become_3 1 rfl rfl)
theorem dX2_become_74 : decode cX2_become 74 = .ok (.getfield 25, 3) := dk_180 0 25 (dk_at dksX2_become_3 2 rfl rfl)
theorem dX2_become_77 : decode cX2_become 77 = .ok (.iconst 0, 1) := dk_3 (dk_at dksX2_become_3 5 rfl rfl)
theorem dX2_become_78 : decode cX2_become 78 = .ok (.bipush 12, 2) := dk_16 12 (dk_at dksX2_become_3 6 rfl rfl)
theorem dX2_become_80 : decode cX2_become 80 = .ok (.invokestatic 68, 3) := dk_184 0 68 (dk_at dksX2_become_3 8 rfl rfl)
theorem dX2_become_83 : decode cX2_become 83 = .ok (.aload_n 1, 1) := dk_43 (dk_at dksX2_become_3 11 rfl rfl)
theorem dX2_become_84 : decode cX2_become 84 = .ok (.getfield 29, 3) := dk_180 0 29 (dk_at dksX2_become_3 12 rfl rfl)
theorem dX2_become_87 : decode cX2_become 87 = .ok (.iconst 0, 1) := dk_3 (dk_at dksX2_become_3 15 rfl rfl)
theorem dX2_become_88 : decode cX2_become 88 = .ok (.aload_n 0, 1) := dk_42 (dk_at dksX2_become_3 16 rfl rfl)
theorem dX2_become_89 : decode cX2_become 89 = .ok (.getfield 29, 3) := dk_180 0 29 (dk_at dksX2_become_3 17 rfl rfl)
theorem dX2_become_92 : decode cX2_become 92 = .ok (.iconst 0, 1) := dk_3 (dk_at dksX2_become_3 20 rfl rfl)
theorem dX2_become_93 : decode cX2_become 93 = .ok (.bipush 12, 2) := dk_16 12 (dk_at dksX2_become_3 21 rfl rfl)
theorem dX2_become_95 : decode cX2_become 95 = .ok (.invokestatic 68, 3) := dk_184 0 68 (dk_at dksX2_become_4 0 rfl rfl)
theorem dX2_become_98 : decode cX2_become 98 = .ok (.aload_n 1, 1) := dk_43 (dk_at dksX2_become_4 3 rfl rfl)
theorem dX2_become_99 : decode cX2_become 99 = .ok (.getfield 33, 3) := dk_180 0 33 (dk_at dksX2_become_4 4 rfl rfl)
theorem dX2_become_102 : decode cX2_become 102 = .ok (.iconst 0, 1) := dk_3 (dk_at dksX2_become_4 7 rfl rfl)
theorem dX2_become_103 : decode cX2_become 103 = .ok (.aload_n 0, 1) := dk_42 (dk_at dksX2_become_4 8 rfl rfl)
theorem dX2_become_104 : decode cX2_become 104 = .ok (.getfield 33, 3) := dk_180 0 33 (dk_at dksX2_become_4 9 rfl rfl)
theorem dX2_become_107 : decode cX2_become 107 = .ok (.iconst 0, 1) := dk_3 (dk_at dksX2_become_4 12 rfl rfl)
theorem dX2_become_108 : decode cX2_become 108 = .ok (.iconst 3, 1) := dk_6 (dk_at dksX2_become_4 13 rfl rfl)
theorem dX2_become_109 : decode cX2_become 109 = .ok (.invokestatic 68, 3) := dk_184 0 68 (dk_at dksX2_become_4 14 rfl rfl)
theorem dX2_become_112 : decode cX2_become 112 = .ok (.aload_n 0, 1) := dk_42 (dk_at dksX2_become_4 17 rfl rfl)
theorem dX2_become_113 : decode cX2_become 113 = .ok (.aload_n 1, 1) := dk_43 (dk_at dksX2_become_4 18 rfl rfl)
theorem dX2_become_114 : decode cX2_become 114 = .ok (.invokevirtual 74, 3) := dk_182 0 74 (dk_at dksX2_become_4 19 rfl rfl)
theorem dX2_become_117 : decode cX2_become 117 = .ok (.return_, 1) := dk_177 (dk_at dksX2_become_4 22 rfl rfl)
abbrev cX2_add : ByteArray := prog_5_method_4_code
def yX2_add : MethodName := ⟨RX2, "add", "(LDrawerRing$Item;)V"⟩
def dkwX2_add_0 : List UInt8 := [42, 180, 0, 12, 43, 182, 0, 96, 87, 42, 180, 0, 21, 43, 180, 0, 50, 43, 182, 0, 99, 87, 177]
abbrev dktX2_add_0 : List UInt8 := dkwX2_add_0 ++ []
theorem dksX2_add_0 : cX2_add.data.toList.drop 0 = dktX2_add_0 := by decide +kernel
theorem dX2_add_0 : decode cX2_add 0 = .ok (.aload_n 0, 1) := dk_42 (dk_at dksX2_add_0 0 rfl rfl)
theorem dX2_add_1 : decode cX2_add 1 = .ok (.getfield 12, 3) := dk_180 0 12 (dk_at dksX2_add_0 1 rfl rfl)
theorem dX2_add_4 : decode cX2_add 4 = .ok (.aload_n 1, 1) := dk_43 (dk_at dksX2_add_0 4 rfl rfl)
theorem dX2_add_5 : decode cX2_add 5 = .ok (.invokevirtual 96, 3) := dk_182 0 96 (dk_at dksX2_add_0 5 rfl rfl)
theorem dX2_add_8 : decode cX2_add 8 = .ok (.pop, 1) := dk_87 (dk_at dksX2_add_0 8 rfl rfl)
theorem dX2_add_9 : decode cX2_add 9 = .ok (.aload_n 0, 1) := dk_42 (dk_at dksX2_add_0 9 rfl rfl)
theorem dX2_add_10 : decode cX2_add 10 = .ok (.getfield 21, 3) := dk_180 0 21 (dk_at dksX2_add_0 10 rfl rfl)
theorem dX2_add_13 : decode cX2_add 13 = .ok (.aload_n 1, 1) := dk_43 (dk_at dksX2_add_0 13 rfl rfl)
theorem dX2_add_14 : decode cX2_add 14 = .ok (.getfield 50, 3) := dk_180 0 50 (dk_at dksX2_add_0 14 rfl rfl)
theorem dX2_add_17 : decode cX2_add 17 = .ok (.aload_n 1, 1) := dk_43 (dk_at dksX2_add_0 17 rfl rfl)
theorem dX2_add_18 : decode cX2_add 18 = .ok (.invokevirtual 99, 3) := dk_182 0 99 (dk_at dksX2_add_0 18 rfl rfl)
theorem dX2_add_21 : decode cX2_add 21 = .ok (.pop, 1) := dk_87 (dk_at dksX2_add_0 21 rfl rfl)
theorem dX2_add_22 : decode cX2_add 22 = .ok (.return_, 1) := dk_177 (dk_at dksX2_add_0 22 rfl rfl)
abbrev cX2_turnAs : ByteArray := prog_5_method_3_code
def yX2_turnAs : MethodName := ⟨RX2, "turnAs", "(LDrawerRing$Ring;)V"⟩
def dkwX2_turnAs_2 : List UInt8 := [177]
abbrev dktX2_turnAs_2 : List UInt8 := dkwX2_turnAs_2 ++ []
def dkwX2_turnAs_1 : List UInt8 := [42, 43, 180, 0, 87, 181, 0, 87, 42, 43, 180, 0, 90, 181, 0, 90, 42, 43, 180, 0, 93, 181, 0, 93]
abbrev dktX2_turnAs_1 : List UInt8 := dkwX2_turnAs_1 ++ dktX2_turnAs_2
def dkwX2_turnAs_0 : List UInt8 := [42, 43, 180, 0, 78, 181, 0, 78, 42, 43, 180, 0, 81, 181, 0, 81, 42, 43, 180, 0, 84, 181, 0, 84]
abbrev dktX2_turnAs_0 : List UInt8 := dkwX2_turnAs_0 ++ dktX2_turnAs_1
theorem dksX2_turnAs_0 : cX2_turnAs.data.toList.drop 0 = dktX2_turnAs_0 := by decide +kernel
theorem dksX2_turnAs_1 : cX2_turnAs.data.toList.drop 24 = dktX2_turnAs_1 := dk_seg dksX2_turnAs_0 24 rfl rfl
theorem dksX2_turnAs_2 : cX2_turnAs.data.toList.drop 48 = dktX2_turnAs_2 := dk_seg dksX2_turnAs_1 24 rfl rfl
theorem dX2_turnAs_0 : decode cX2_turnAs 0 = .ok (.aload_n 0, 1) := dk_42 (dk_at dksX2_turnAs_0 0 rfl rfl)
theorem dX2_turnAs_1 : decode cX2_turnAs 1 = .ok (.aload_n 1, 1) := dk_43 (dk_at dksX2_turnAs_0 1 rfl rfl)
theorem dX2_turnAs_2 : decode cX2_turnAs 2 = .ok (.getfield 78, 3) := dk_180 0 78 (dk_at dksX2_turnAs_0 2 rfl rfl)
theorem dX2_turnAs_5 : decode cX2_turnAs 5 = .ok (.putfield 78, 3) := dk_181 0 78 (dk_at dksX2_turnAs_0 5 rfl rfl)
theorem dX2_turnAs_8 : decode cX2_turnAs 8 = .ok (.aload_n 0, 1) := dk_42 (dk_at dksX2_turnAs_0 8 rfl rfl)
theorem dX2_turnAs_9 : decode cX2_turnAs 9 = .ok (.aload_n 1, 1) := dk_43 (dk_at dksX2_turnAs_0 9 rfl rfl)
theorem dX2_turnAs_10 : decode cX2_turnAs 10 = .ok (.getfield 81, 3) := dk_180 0 81 (dk_at dksX2_turnAs_0 10 rfl rfl)
theorem dX2_turnAs_13 : decode cX2_turnAs 13 = .ok (.putfield 81, 3) := dk_181 0 81 (dk_at dksX2_turnAs_0 13 rfl rfl)
theorem dX2_turnAs_16 : decode cX2_turnAs 16 = .ok (.aload_n 0, 1) := dk_42 (dk_at dksX2_turnAs_0 16 rfl rfl)
theorem dX2_turnAs_17 : decode cX2_turnAs 17 = .ok (.aload_n 1, 1) := dk_43 (dk_at dksX2_turnAs_0 17 rfl rfl)
theorem dX2_turnAs_18 : decode cX2_turnAs 18 = .ok (.getfield 84, 3) := dk_180 0 84 (dk_at dksX2_turnAs_0 18 rfl rfl)
theorem dX2_turnAs_21 : decode cX2_turnAs 21 = .ok (.putfield 84, 3) := dk_181 0 84 (dk_at dksX2_turnAs_0 21 rfl rfl)
theorem dX2_turnAs_24 : decode cX2_turnAs 24 = .ok (.aload_n 0, 1) := dk_42 (dk_at dksX2_turnAs_1 0 rfl rfl)
theorem dX2_turnAs_25 : decode cX2_turnAs 25 = .ok (.aload_n 1, 1) := dk_43 (dk_at dksX2_turnAs_1 1 rfl rfl)
theorem dX2_turnAs_26 : decode cX2_turnAs 26 = .ok (.getfield 87, 3) := dk_180 0 87 (dk_at dksX2_turnAs_1 2 rfl rfl)
theorem dX2_turnAs_29 : decode cX2_turnAs 29 = .ok (.putfield 87, 3) := dk_181 0 87 (dk_at dksX2_turnAs_1 5 rfl rfl)
theorem dX2_turnAs_32 : decode cX2_turnAs 32 = .ok (.aload_n 0, 1) := dk_42 (dk_at dksX2_turnAs_1 8 rfl rfl)
theorem dX2_turnAs_33 : decode cX2_turnAs 33 = .ok (.aload_n 1, 1) := dk_43 (dk_at dksX2_turnAs_1 9 rfl rfl)
theorem dX2_turnAs_34 : decode cX2_turnAs 34 = .ok (.getfield 90, 3) := dk_180 0 90 (dk_at dksX2_turnAs_1 10 rfl rfl)
theorem dX2_turnAs_37 : decode cX2_turnAs 37 = .ok (.putfield 90, 3) := dk_181 0 90 (dk_at dksX2_turnAs_1 13 rfl rfl)
theorem dX2_turnAs_40 : decode cX2_turnAs 40 = .ok (.aload_n 0, 1) := dk_42 (dk_at dksX2_turnAs_1 16 rfl rfl)
theorem dX2_turnAs_41 : decode cX2_turnAs 41 = .ok (.aload_n 1, 1) := dk_43 (dk_at dksX2_turnAs_1 17 rfl rfl)
theorem dX2_turnAs_42 : decode cX2_turnAs 42 = .ok (.getfield 93, 3) := dk_180 0 93 (dk_at dksX2_turnAs_1 18 rfl rfl)
theorem dX2_turnAs_45 : decode cX2_turnAs 45 = .ok (.putfield 93, 3) := dk_181 0 93 (dk_at dksX2_turnAs_1 21 rfl rfl)
theorem dX2_turnAs_48 : decode cX2_turnAs 48 = .ok (.return_, 1) := dk_177 (dk_at dksX2_turnAs_2 0 rfl rfl)
abbrev cX2_pick : ByteArray := prog_5_method_15_code
def yX2_pick : MethodName := ⟨RX2, "pick", "(LDrawerRing$Item;)I"⟩
def dkwX2_pick_2 : List UInt8 := [180, 0, 54, 100, 79, 42, 89, 180, 0, 93, 4, 96, 181, 0, 93, 28, 172]
abbrev dktX2_pick_2 : List UInt8 := dkwX2_pick_2 ++ []
def dkwX2_pick_1 : List UInt8 := [180, 0, 21, 43, 180, 0, 50, 182, 0, 144, 87, 42, 180, 0, 25, 43, 180, 0, 58, 92, 46, 43]
abbrev dktX2_pick_1 : List UInt8 := dkwX2_pick_1 ++ dktX2_pick_2
def dkwX2_pick_0 : List UInt8 := [42, 43, 180, 0, 58, 182, 0, 138, 184, 0, 111, 61, 42, 180, 0, 12, 43, 182, 0, 141, 87, 42]
abbrev dktX2_pick_0 : List UInt8 := dkwX2_pick_0 ++ dktX2_pick_1
theorem dksX2_pick_0 : cX2_pick.data.toList.drop 0 = dktX2_pick_0 := by decide +kernel
theorem dksX2_pick_1 : cX2_pick.data.toList.drop 22 = dktX2_pick_1 := dk_seg dksX2_pick_0 22 rfl rfl
theorem dksX2_pick_2 : cX2_pick.data.toList.drop 44 = dktX2_pick_2 := dk_seg dksX2_pick_1 22 rfl rfl
theorem dX2_pick_0 : decode cX2_pick 0 = .ok (.aload_n 0, 1) := dk_42 (dk_at dksX2_pick_0 0 rfl rfl)
theorem dX2_pick_1 : decode cX2_pick 1 = .ok (.aload_n 1, 1) := dk_43 (dk_at dksX2_pick_0 1 rfl rfl)
theorem dX2_pick_2 : decode cX2_pick 2 = .ok (.getfield 58, 3) := dk_180 0 58 (dk_at dksX2_pick_0 2 rfl rfl)
theorem dX2_pick_5 : decode cX2_pick 5 = .ok (.invokevirtual 138, 3) := dk_182 0 138 (dk_at dksX2_pick_0 5 rfl rfl)
theorem dX2_pick_8 : decode cX2_pick 8 = .ok (.invokestatic 111, 3) := dk_184 0 111 (dk_at dksX2_pick_0 8 rfl rfl)
theorem dX2_pick_11 : decode cX2_pick 11 = .ok (.istore_n 2, 1) := dk_61 (dk_at dksX2_pick_0 11 rfl rfl)
theorem dX2_pick_12 : decode cX2_pick 12 = .ok (.aload_n 0, 1) := dk_42 (dk_at dksX2_pick_0 12 rfl rfl)
theorem dX2_pick_13 : decode cX2_pick 13 = .ok (.getfield 12, 3) := dk_180 0 12 (dk_at dksX2_pick_0 13 rfl rfl)
theorem dX2_pick_16 : decode cX2_pick 16 = .ok (.aload_n 1, 1) := dk_43 (dk_at dksX2_pick_0 16 rfl rfl)
theorem dX2_pick_17 : decode cX2_pick 17 = .ok (.invokevirtual 141, 3) := dk_182 0 141 (dk_at dksX2_pick_0 17 rfl rfl)
theorem dX2_pick_20 : decode cX2_pick 20 = .ok (.pop, 1) := dk_87 (dk_at dksX2_pick_0 20 rfl rfl)
theorem dX2_pick_21 : decode cX2_pick 21 = .ok (.aload_n 0, 1) := dk_42 (dk_at dksX2_pick_0 21 rfl rfl)
theorem dX2_pick_22 : decode cX2_pick 22 = .ok (.getfield 21, 3) := dk_180 0 21 (dk_at dksX2_pick_1 0 rfl rfl)
theorem dX2_pick_25 : decode cX2_pick 25 = .ok (.aload_n 1, 1) := dk_43 (dk_at dksX2_pick_1 3 rfl rfl)
theorem dX2_pick_26 : decode cX2_pick 26 = .ok (.getfield 50, 3) := dk_180 0 50 (dk_at dksX2_pick_1 4 rfl rfl)
theorem dX2_pick_29 : decode cX2_pick 29 = .ok (.invokevirtual 144, 3) := dk_182 0 144 (dk_at dksX2_pick_1 7 rfl rfl)
theorem dX2_pick_32 : decode cX2_pick 32 = .ok (.pop, 1) := dk_87 (dk_at dksX2_pick_1 10 rfl rfl)
theorem dX2_pick_33 : decode cX2_pick 33 = .ok (.aload_n 0, 1) := dk_42 (dk_at dksX2_pick_1 11 rfl rfl)
theorem dX2_pick_34 : decode cX2_pick 34 = .ok (.getfield 25, 3) := dk_180 0 25 (dk_at dksX2_pick_1 12 rfl rfl)
theorem dX2_pick_37 : decode cX2_pick 37 = .ok (.aload_n 1, 1) := dk_43 (dk_at dksX2_pick_1 15 rfl rfl)
theorem dX2_pick_38 : decode cX2_pick 38 = .ok (.getfield 58, 3) := dk_180 0 58 (dk_at dksX2_pick_1 16 rfl rfl)
theorem dX2_pick_41 : decode cX2_pick 41 = .ok (.dup2, 1) := dk_92 (dk_at dksX2_pick_1 19 rfl rfl)
theorem dX2_pick_42 : decode cX2_pick 42 = .ok (.iaload, 1) := dk_46 (dk_at dksX2_pick_1 20 rfl rfl)
theorem dX2_pick_43 : decode cX2_pick 43 = .ok (.aload_n 1, 1) := dk_43 (dk_at dksX2_pick_1 21 rfl rfl)
theorem dX2_pick_44 : decode cX2_pick 44 = .ok (.getfield 54, 3) := dk_180 0 54 (dk_at dksX2_pick_2 0 rfl rfl)
theorem dX2_pick_47 : decode cX2_pick 47 = .ok (.isub, 1) := dk_100 (dk_at dksX2_pick_2 3 rfl rfl)
theorem dX2_pick_48 : decode cX2_pick 48 = .ok (.iastore, 1) := dk_79 (dk_at dksX2_pick_2 4 rfl rfl)
theorem dX2_pick_49 : decode cX2_pick 49 = .ok (.aload_n 0, 1) := dk_42 (dk_at dksX2_pick_2 5 rfl rfl)
theorem dX2_pick_50 : decode cX2_pick 50 = .ok (.dup, 1) := dk_89 (dk_at dksX2_pick_2 6 rfl rfl)
theorem dX2_pick_51 : decode cX2_pick 51 = .ok (.getfield 93, 3) := dk_180 0 93 (dk_at dksX2_pick_2 7 rfl rfl)
theorem dX2_pick_54 : decode cX2_pick 54 = .ok (.iconst 1, 1) := dk_4 (dk_at dksX2_pick_2 10 rfl rfl)
theorem dX2_pick_55 : decode cX2_pick 55 = .ok (.iadd, 1) := dk_96 (dk_at dksX2_pick_2 11 rfl rfl)
theorem dX2_pick_56 : decode cX2_pick 56 = .ok (.putfield 93, 3) := dk_181 0 93 (dk_at dksX2_pick_2 12 rfl rfl)
theorem dX2_pick_59 : decode cX2_pick 59 = .ok (.iload_n 2, 1) := dk_28 (dk_at dksX2_pick_2 15 rfl rfl)
theorem dX2_pick_60 : decode cX2_pick 60 = .ok (.ireturn, 1) := dk_172 (dk_at dksX2_pick_2 16 rfl rfl)
abbrev cX2_turn : ByteArray := prog_5_method_13_code
def yX2_turn : MethodName := ⟨RX2, "turn", "(I)I"⟩
def dkwX2_turn_4 : List UInt8 := [172]
abbrev dktX2_turn_4 : List UInt8 := dkwX2_turn_4 ++ []
def dkwX2_turn_3 : List UInt8 := [181, 0, 84, 42, 89, 180, 0, 87, 3, 28, 116, 184, 0, 120, 96, 181, 0, 87, 42, 27, 181, 0, 78, 28]
abbrev dktX2_turn_3 : List UInt8 := dkwX2_turn_3 ++ dktX2_turn_4
def dkwX2_turn_2 : List UInt8 := [159, 0, 7, 4, 167, 0, 4, 3, 96, 181, 0, 90, 42, 89, 180, 0, 84, 3, 28, 184, 0, 120, 96]
abbrev dktX2_turn_2 : List UInt8 := dkwX2_turn_2 ++ dktX2_turn_3
def dkwX2_turn_1 : List UInt8 := [153, 0, 30, 29, 16, 6, 163, 0, 7, 4, 167, 0, 4, 3, 28, 158, 0, 7, 4, 167, 0, 4, 3]
abbrev dktX2_turn_1 : List UInt8 := dkwX2_turn_1 ++ dktX2_turn_2
def dkwX2_turn_0 : List UInt8 := [42, 27, 182, 0, 131, 61, 42, 27, 42, 180, 0, 78, 182, 0, 124, 62, 42, 89, 180, 0, 90, 28]
abbrev dktX2_turn_0 : List UInt8 := dkwX2_turn_0 ++ dktX2_turn_1
theorem dksX2_turn_0 : cX2_turn.data.toList.drop 0 = dktX2_turn_0 := by decide +kernel
theorem dksX2_turn_1 : cX2_turn.data.toList.drop 22 = dktX2_turn_1 := dk_seg dksX2_turn_0 22 rfl rfl
theorem dksX2_turn_2 : cX2_turn.data.toList.drop 45 = dktX2_turn_2 := dk_seg dksX2_turn_1 23 rfl rfl
theorem dksX2_turn_3 : cX2_turn.data.toList.drop 68 = dktX2_turn_3 := dk_seg dksX2_turn_2 23 rfl rfl
theorem dksX2_turn_4 : cX2_turn.data.toList.drop 92 = dktX2_turn_4 := dk_seg dksX2_turn_3 24 rfl rfl
theorem dX2_turn_0 : decode cX2_turn 0 = .ok (.aload_n 0, 1) := dk_42 (dk_at dksX2_turn_0 0 rfl rfl)
theorem dX2_turn_1 : decode cX2_turn 1 = .ok (.iload_n 1, 1) := dk_27 (dk_at dksX2_turn_0 1 rfl rfl)
theorem dX2_turn_2 : decode cX2_turn 2 = .ok (.invokevirtual 131, 3) := dk_182 0 131 (dk_at dksX2_turn_0 2 rfl rfl)
theorem dX2_turn_5 : decode cX2_turn 5 = .ok (.istore_n 2, 1) := dk_61 (dk_at dksX2_turn_0 5 rfl rfl)
theorem dX2_turn_6 : decode cX2_turn 6 = .ok (.aload_n 0, 1) := dk_42 (dk_at dksX2_turn_0 6 rfl rfl)
theorem dX2_turn_7 : decode cX2_turn 7 = .ok (.iload_n 1, 1) := dk_27 (dk_at dksX2_turn_0 7 rfl rfl)
theorem dX2_turn_8 : decode cX2_turn 8 = .ok (.aload_n 0, 1) := dk_42 (dk_at dksX2_turn_0 8 rfl rfl)
theorem dX2_turn_9 : decode cX2_turn 9 = .ok (.getfield 78, 3) := dk_180 0 78 (dk_at dksX2_turn_0 9 rfl rfl)
theorem dX2_turn_12 : decode cX2_turn 12 = .ok (.invokevirtual 124, 3) := dk_182 0 124 (dk_at dksX2_turn_0 12 rfl rfl)
theorem dX2_turn_15 : decode cX2_turn 15 = .ok (.istore_n 3, 1) := dk_62 (dk_at dksX2_turn_0 15 rfl rfl)
theorem dX2_turn_16 : decode cX2_turn 16 = .ok (.aload_n 0, 1) := dk_42 (dk_at dksX2_turn_0 16 rfl rfl)
theorem dX2_turn_17 : decode cX2_turn 17 = .ok (.dup, 1) := dk_89 (dk_at dksX2_turn_0 17 rfl rfl)
theorem dX2_turn_18 : decode cX2_turn 18 = .ok (.getfield 90, 3) := dk_180 0 90 (dk_at dksX2_turn_0 18 rfl rfl)
theorem dX2_turn_21 : decode cX2_turn 21 = .ok (.iload_n 2, 1) := dk_28 (dk_at dksX2_turn_0 21 rfl rfl)
theorem dX2_turn_22 : decode cX2_turn 22 = .ok (.ifCond .eq 30, 3) := dk_153 0 30 (dk_at dksX2_turn_1 0 rfl rfl)
theorem dX2_turn_25 : decode cX2_turn 25 = .ok (.iload_n 3, 1) := dk_29 (dk_at dksX2_turn_1 3 rfl rfl)
theorem dX2_turn_26 : decode cX2_turn 26 = .ok (.bipush 6, 2) := dk_16 6 (dk_at dksX2_turn_1 4 rfl rfl)
theorem dX2_turn_28 : decode cX2_turn 28 = .ok (.if_icmp .gt 7, 3) := dk_163 0 7 (dk_at dksX2_turn_1 6 rfl rfl)
theorem dX2_turn_31 : decode cX2_turn 31 = .ok (.iconst 1, 1) := dk_4 (dk_at dksX2_turn_1 9 rfl rfl)
theorem dX2_turn_32 : decode cX2_turn 32 = .ok (.goto 4, 3) := dk_167 0 4 (dk_at dksX2_turn_1 10 rfl rfl)
theorem dX2_turn_35 : decode cX2_turn 35 = .ok (.iconst 0, 1) := dk_3 (dk_at dksX2_turn_1 13 rfl rfl)
theorem dX2_turn_36 : decode cX2_turn 36 = .ok (.iload_n 2, 1) := dk_28 (dk_at dksX2_turn_1 14 rfl rfl)
theorem dX2_turn_37 : decode cX2_turn 37 = .ok (.ifCond .le 7, 3) := dk_158 0 7 (dk_at dksX2_turn_1 15 rfl rfl)
theorem dX2_turn_40 : decode cX2_turn 40 = .ok (.iconst 1, 1) := dk_4 (dk_at dksX2_turn_1 18 rfl rfl)
theorem dX2_turn_41 : decode cX2_turn 41 = .ok (.goto 4, 3) := dk_167 0 4 (dk_at dksX2_turn_1 19 rfl rfl)
theorem dX2_turn_44 : decode cX2_turn 44 = .ok (.iconst 0, 1) := dk_3 (dk_at dksX2_turn_1 22 rfl rfl)
theorem dX2_turn_45 : decode cX2_turn 45 = .ok (.if_icmp .eq 7, 3) := dk_159 0 7 (dk_at dksX2_turn_2 0 rfl rfl)
theorem dX2_turn_48 : decode cX2_turn 48 = .ok (.iconst 1, 1) := dk_4 (dk_at dksX2_turn_2 3 rfl rfl)
theorem dX2_turn_49 : decode cX2_turn 49 = .ok (.goto 4, 3) := dk_167 0 4 (dk_at dksX2_turn_2 4 rfl rfl)
theorem dX2_turn_52 : decode cX2_turn 52 = .ok (.iconst 0, 1) := dk_3 (dk_at dksX2_turn_2 7 rfl rfl)
theorem dX2_turn_53 : decode cX2_turn 53 = .ok (.iadd, 1) := dk_96 (dk_at dksX2_turn_2 8 rfl rfl)
theorem dX2_turn_54 : decode cX2_turn 54 = .ok (.putfield 90, 3) := dk_181 0 90 (dk_at dksX2_turn_2 9 rfl rfl)
theorem dX2_turn_57 : decode cX2_turn 57 = .ok (.aload_n 0, 1) := dk_42 (dk_at dksX2_turn_2 12 rfl rfl)
theorem dX2_turn_58 : decode cX2_turn 58 = .ok (.dup, 1) := dk_89 (dk_at dksX2_turn_2 13 rfl rfl)
theorem dX2_turn_59 : decode cX2_turn 59 = .ok (.getfield 84, 3) := dk_180 0 84 (dk_at dksX2_turn_2 14 rfl rfl)
theorem dX2_turn_62 : decode cX2_turn 62 = .ok (.iconst 0, 1) := dk_3 (dk_at dksX2_turn_2 17 rfl rfl)
theorem dX2_turn_63 : decode cX2_turn 63 = .ok (.iload_n 2, 1) := dk_28 (dk_at dksX2_turn_2 18 rfl rfl)
theorem dX2_turn_64 : decode cX2_turn 64 = .ok (.invokestatic 120, 3) := dk_184 0 120 (dk_at dksX2_turn_2 19 rfl rfl)
theorem dX2_turn_67 : decode cX2_turn 67 = .ok (.iadd, 1) := dk_96 (dk_at dksX2_turn_2 22 rfl rfl)
theorem dX2_turn_68 : decode cX2_turn 68 = .ok (.putfield 84, 3) := dk_181 0 84 (dk_at dksX2_turn_3 0 rfl rfl)
theorem dX2_turn_71 : decode cX2_turn 71 = .ok (.aload_n 0, 1) := dk_42 (dk_at dksX2_turn_3 3 rfl rfl)
theorem dX2_turn_72 : decode cX2_turn 72 = .ok (.dup, 1) := dk_89 (dk_at dksX2_turn_3 4 rfl rfl)
theorem dX2_turn_73 : decode cX2_turn 73 = .ok (.getfield 87, 3) := dk_180 0 87 (dk_at dksX2_turn_3 5 rfl rfl)
theorem dX2_turn_76 : decode cX2_turn 76 = .ok (.iconst 0, 1) := dk_3 (dk_at dksX2_turn_3 8 rfl rfl)
theorem dX2_turn_77 : decode cX2_turn 77 = .ok (.iload_n 2, 1) := dk_28 (dk_at dksX2_turn_3 9 rfl rfl)
theorem dX2_turn_78 : decode cX2_turn 78 = .ok (.ineg, 1) := dk_116 (dk_at dksX2_turn_3 10 rfl rfl)
theorem dX2_turn_79 : decode cX2_turn 79 = .ok (.invokestatic 120, 3) := dk_184 0 120 (dk_at dksX2_turn_3 11 rfl rfl)
theorem dX2_turn_82 : decode cX2_turn 82 = .ok (.iadd, 1) := dk_96 (dk_at dksX2_turn_3 14 rfl rfl)
theorem dX2_turn_83 : decode cX2_turn 83 = .ok (.putfield 87, 3) := dk_181 0 87 (dk_at dksX2_turn_3 15 rfl rfl)
theorem dX2_turn_86 : decode cX2_turn 86 = .ok (.aload_n 0, 1) := dk_42 (dk_at dksX2_turn_3 18 rfl rfl)
theorem dX2_turn_87 : decode cX2_turn 87 = .ok (.iload_n 1, 1) := dk_27 (dk_at dksX2_turn_3 19 rfl rfl)
theorem dX2_turn_88 : decode cX2_turn 88 = .ok (.putfield 78, 3) := dk_181 0 78 (dk_at dksX2_turn_3 20 rfl rfl)
theorem dX2_turn_91 : decode cX2_turn 91 = .ok (.iload_n 2, 1) := dk_28 (dk_at dksX2_turn_3 23 rfl rfl)
theorem dX2_turn_92 : decode cX2_turn 92 = .ok (.ireturn, 1) := dk_172 (dk_at dksX2_turn_4 0 rfl rfl)
abbrev cX2_isBalanced : ByteArray := prog_5_method_9_code
def yX2_isBalanced : MethodName := ⟨RX2, "isBalanced", "()Z"⟩
def dkwX2_isBalanced_0 : List UInt8 := [42, 42, 180, 0, 78, 182, 0, 117, 42, 180, 0, 33, 3, 46, 163, 0, 7, 4, 167, 0, 4, 3, 172]
abbrev dktX2_isBalanced_0 : List UInt8 := dkwX2_isBalanced_0 ++ []
theorem dksX2_isBalanced_0 : cX2_isBalanced.data.toList.drop 0 = dktX2_isBalanced_0 := by decide +kernel
theorem dX2_isBalanced_0 : decode cX2_isBalanced 0 = .ok (.aload_n 0, 1) := dk_42 (dk_at dksX2_isBalanced_0 0 rfl rfl)
theorem dX2_isBalanced_1 : decode cX2_isBalanced 1 = .ok (.aload_n 0, 1) := dk_42 (dk_at dksX2_isBalanced_0 1 rfl rfl)
theorem dX2_isBalanced_2 : decode cX2_isBalanced 2 = .ok (.getfield 78, 3) := dk_180 0 78 (dk_at dksX2_isBalanced_0 2 rfl rfl)
theorem dX2_isBalanced_5 : decode cX2_isBalanced 5 = .ok (.invokevirtual 117, 3) := dk_182 0 117 (dk_at dksX2_isBalanced_0 5 rfl rfl)
theorem dX2_isBalanced_8 : decode cX2_isBalanced 8 = .ok (.aload_n 0, 1) := dk_42 (dk_at dksX2_isBalanced_0 8 rfl rfl)
theorem dX2_isBalanced_9 : decode cX2_isBalanced 9 = .ok (.getfield 33, 3) := dk_180 0 33 (dk_at dksX2_isBalanced_0 9 rfl rfl)
theorem dX2_isBalanced_12 : decode cX2_isBalanced 12 = .ok (.iconst 0, 1) := dk_3 (dk_at dksX2_isBalanced_0 12 rfl rfl)
theorem dX2_isBalanced_13 : decode cX2_isBalanced 13 = .ok (.iaload, 1) := dk_46 (dk_at dksX2_isBalanced_0 13 rfl rfl)
theorem dX2_isBalanced_14 : decode cX2_isBalanced 14 = .ok (.if_icmp .gt 7, 3) := dk_163 0 7 (dk_at dksX2_isBalanced_0 14 rfl rfl)
theorem dX2_isBalanced_17 : decode cX2_isBalanced 17 = .ok (.iconst 1, 1) := dk_4 (dk_at dksX2_isBalanced_0 17 rfl rfl)
theorem dX2_isBalanced_18 : decode cX2_isBalanced 18 = .ok (.goto 4, 3) := dk_167 0 4 (dk_at dksX2_isBalanced_0 18 rfl rfl)
theorem dX2_isBalanced_21 : decode cX2_isBalanced 21 = .ok (.iconst 0, 1) := dk_3 (dk_at dksX2_isBalanced_0 21 rfl rfl)
theorem dX2_isBalanced_22 : decode cX2_isBalanced 22 = .ok (.ireturn, 1) := dk_172 (dk_at dksX2_isBalanced_0 22 rfl rfl)
abbrev cX2_put : ByteArray := prog_5_method_6_code
def yX2_put : MethodName := ⟨RX2, "put", "(II)V"⟩
def dkwX2_put_1 : List UInt8 := [42, 180, 0, 25, 27, 92, 46, 28, 96, 79, 42, 89, 180, 0, 81, 4, 96, 181, 0, 81, 177]
abbrev dktX2_put_1 : List UInt8 := dkwX2_put_1 ++ []
def dkwX2_put_0 : List UInt8 := [42, 187, 0, 48, 89, 187, 0, 103, 89, 42, 180, 0, 81, 183, 0, 105, 28, 27, 183, 0, 61, 182, 0, 64]
abbrev dktX2_put_0 : List UInt8 := dkwX2_put_0 ++ dktX2_put_1
theorem dksX2_put_0 : cX2_put.data.toList.drop 0 = dktX2_put_0 := by decide +kernel
theorem dksX2_put_1 : cX2_put.data.toList.drop 24 = dktX2_put_1 := dk_seg dksX2_put_0 24 rfl rfl
theorem dX2_put_0 : decode cX2_put 0 = .ok (.aload_n 0, 1) := dk_42 (dk_at dksX2_put_0 0 rfl rfl)
theorem dX2_put_1 : decode cX2_put 1 = .ok (.new 48, 3) := dk_187 0 48 (dk_at dksX2_put_0 1 rfl rfl)
theorem dX2_put_4 : decode cX2_put 4 = .ok (.dup, 1) := dk_89 (dk_at dksX2_put_0 4 rfl rfl)
theorem dX2_put_5 : decode cX2_put 5 = .ok (.new 103, 3) := dk_187 0 103 (dk_at dksX2_put_0 5 rfl rfl)
theorem dX2_put_8 : decode cX2_put 8 = .ok (.dup, 1) := dk_89 (dk_at dksX2_put_0 8 rfl rfl)
theorem dX2_put_9 : decode cX2_put 9 = .ok (.aload_n 0, 1) := dk_42 (dk_at dksX2_put_0 9 rfl rfl)
theorem dX2_put_10 : decode cX2_put 10 = .ok (.getfield 81, 3) := dk_180 0 81 (dk_at dksX2_put_0 10 rfl rfl)
theorem dX2_put_13 : decode cX2_put 13 = .ok (.invokespecial 105, 3) := dk_183 0 105 (dk_at dksX2_put_0 13 rfl rfl)
theorem dX2_put_16 : decode cX2_put 16 = .ok (.iload_n 2, 1) := dk_28 (dk_at dksX2_put_0 16 rfl rfl)
theorem dX2_put_17 : decode cX2_put 17 = .ok (.iload_n 1, 1) := dk_27 (dk_at dksX2_put_0 17 rfl rfl)
theorem dX2_put_18 : decode cX2_put 18 = .ok (.invokespecial 61, 3) := dk_183 0 61 (dk_at dksX2_put_0 18 rfl rfl)
theorem dX2_put_21 : decode cX2_put 21 = .ok (.invokevirtual 64, 3) := dk_182 0 64 (dk_at dksX2_put_0 21 rfl rfl)
theorem dX2_put_24 : decode cX2_put 24 = .ok (.aload_n 0, 1) := dk_42 (dk_at dksX2_put_1 0 rfl rfl)
theorem dX2_put_25 : decode cX2_put 25 = .ok (.getfield 25, 3) := dk_180 0 25 (dk_at dksX2_put_1 1 rfl rfl)
theorem dX2_put_28 : decode cX2_put 28 = .ok (.iload_n 1, 1) := dk_27 (dk_at dksX2_put_1 4 rfl rfl)
theorem dX2_put_29 : decode cX2_put 29 = .ok (.dup2, 1) := dk_92 (dk_at dksX2_put_1 5 rfl rfl)
theorem dX2_put_30 : decode cX2_put 30 = .ok (.iaload, 1) := dk_46 (dk_at dksX2_put_1 6 rfl rfl)
theorem dX2_put_31 : decode cX2_put 31 = .ok (.iload_n 2, 1) := dk_28 (dk_at dksX2_put_1 7 rfl rfl)
theorem dX2_put_32 : decode cX2_put 32 = .ok (.iadd, 1) := dk_96 (dk_at dksX2_put_1 8 rfl rfl)
theorem dX2_put_33 : decode cX2_put 33 = .ok (.iastore, 1) := dk_79 (dk_at dksX2_put_1 9 rfl rfl)
theorem dX2_put_34 : decode cX2_put 34 = .ok (.aload_n 0, 1) := dk_42 (dk_at dksX2_put_1 10 rfl rfl)
theorem dX2_put_35 : decode cX2_put 35 = .ok (.dup, 1) := dk_89 (dk_at dksX2_put_1 11 rfl rfl)
theorem dX2_put_36 : decode cX2_put 36 = .ok (.getfield 81, 3) := dk_180 0 81 (dk_at dksX2_put_1 12 rfl rfl)
theorem dX2_put_39 : decode cX2_put 39 = .ok (.iconst 1, 1) := dk_4 (dk_at dksX2_put_1 15 rfl rfl)
theorem dX2_put_40 : decode cX2_put 40 = .ok (.iadd, 1) := dk_96 (dk_at dksX2_put_1 16 rfl rfl)
theorem dX2_put_41 : decode cX2_put 41 = .ok (.putfield 81, 3) := dk_181 0 81 (dk_at dksX2_put_1 17 rfl rfl)
theorem dX2_put_44 : decode cX2_put 44 = .ok (.return_, 1) := dk_177 (dk_at dksX2_put_1 20 rfl rfl)
theorem q73 : (Jvm.Cond.initialized "DrawerRing$Ring") ∈ lw_all := lw_g (lw_at lw_m1 2 rfl) rfl
theorem q121 : (Jvm.Cond.instantiable "DrawerRing$Ring" (11 : Nat)) ∈ lw_all := lw_g (lw_at lw_m1 50 rfl) rfl
theorem q123 : (Jvm.Cond.instanceMethod ({ cls := "DrawerRing$Ring", name := "<init>", desc := "()V" } : Jvm.MethodName)) ∈ lw_all := lw_g (lw_at lw_m1 52 rfl) rfl
theorem q124 : (Jvm.Cond.code ({ cls := "DrawerRing$Ring", name := "<init>", desc := "()V" } : Jvm.MethodName) prog_5_method_1_code (1 : Nat) (Option.none : Option Jvm.ClassFile.FieldType)) ∈ lw_all := lw_g (lw_at lw_m1 53 rfl) rfl
theorem q125 : (Jvm.Cond.methodLink "DrawerRing$Ring" (3 : Nat) ({ cls := "java/lang/Object", name := "<init>", desc := "()V" } : Jvm.MethodName)) ∈ lw_all := lw_g (lw_at lw_m1 54 rfl) rfl
theorem q126 : (Jvm.Cond.classLink "DrawerRing$Ring" (9 : Nat) "java/util/ArrayList") ∈ lw_all := lw_g (lw_at lw_m1 55 rfl) rfl
theorem q128 : (Jvm.Cond.methodLink "DrawerRing$Ring" (11 : Nat) ({ cls := "java/util/ArrayList", name := "<init>", desc := "()V" } : Jvm.MethodName)) ∈ lw_all := lw_g (lw_at lw_m1 57 rfl) rfl
theorem q152 : (Jvm.Cond.classLink "DrawerRing$Ring" (18 : Nat) "java/util/HashMap") ∈ lw_all := lw_g (lw_at lw_m1 81 rfl) rfl
theorem q154 : (Jvm.Cond.methodLink "DrawerRing$Ring" (20 : Nat) ({ cls := "java/util/HashMap", name := "<init>", desc := "()V" } : Jvm.MethodName)) ∈ lw_all := lw_g (lw_at lw_m1 83 rfl) rfl
theorem q184 : (Jvm.Cond.fieldLink "DrawerRing$Ring" (12 : Nat) "DrawerRing$Ring" "items" "Ljava/util/ArrayList;") ∈ lw_all := lw_g (lw_at lw_m1 113 rfl) rfl
theorem q186 : (Jvm.Cond.fieldLink "DrawerRing$Ring" (21 : Nat) "DrawerRing$Ring" "byTag" "Ljava/util/HashMap;") ∈ lw_all := lw_g (lw_at lw_m1 115 rfl) rfl
theorem q187 : (Jvm.Cond.fieldLink "DrawerRing$Ring" (25 : Nat) "DrawerRing$Ring" "loads" "[I") ∈ lw_all := lw_g (lw_at lw_m1 116 rfl) rfl
theorem q190 : (Jvm.Cond.fieldLink "DrawerRing$Ring" (29 : Nat) "DrawerRing$Ring" "areJammed" "[Z") ∈ lw_all := lw_g (lw_at lw_m1 119 rfl) rfl
theorem q193 : (Jvm.Cond.fieldLink "DrawerRing$Ring" (33 : Nat) "DrawerRing$Ring" "settings" "[I") ∈ lw_all := lw_g (lw_at lw_m1 122 rfl) rfl
theorem q195 : (Jvm.Cond.fieldLink "DrawerRing$Ring" (78 : Nat) "DrawerRing$Ring" "window" "I") ∈ lw_all := lw_g (lw_at lw_m1 124 rfl) rfl
theorem q198 : (Jvm.Cond.fieldLink "DrawerRing$Ring" (81 : Nat) "DrawerRing$Ring" "numbers" "I") ∈ lw_all := lw_g (lw_at lw_m1 127 rfl) rfl
theorem q200 : (Jvm.Cond.fieldLink "DrawerRing$Ring" (84 : Nat) "DrawerRing$Ring" "up" "I") ∈ lw_all := lw_g (lw_at lw_m1 129 rfl) rfl
theorem q201 : (Jvm.Cond.fieldLink "DrawerRing$Ring" (87 : Nat) "DrawerRing$Ring" "down" "I") ∈ lw_all := lw_g (lw_at lw_m1 130 rfl) rfl
theorem q203 : (Jvm.Cond.fieldLink "DrawerRing$Ring" (90 : Nat) "DrawerRing$Ring" "longer" "I") ∈ lw_all := lw_g (lw_at lw_m1 132 rfl) rfl
theorem q205 : (Jvm.Cond.fieldLink "DrawerRing$Ring" (93 : Nat) "DrawerRing$Ring" "picked" "I") ∈ lw_all := lw_g (lw_at lw_m1 134 rfl) rfl
theorem q207 : (Jvm.Cond.laysFinal "DrawerRing$Ring" "DrawerRing$Ring" "items" "Ljava/util/ArrayList;") ∈ lw_all := lw_g (lw_at lw_m1 136 rfl) rfl
theorem q208 : (Jvm.Cond.soleField "DrawerRing$Ring" "items") ∈ lw_all := lw_g (lw_at lw_m1 137 rfl) rfl
theorem q209 : (Jvm.Cond.laysFinal "DrawerRing$Ring" "DrawerRing$Ring" "byTag" "Ljava/util/HashMap;") ∈ lw_all := lw_g (lw_at lw_m1 138 rfl) rfl
theorem q210 : (Jvm.Cond.soleField "DrawerRing$Ring" "byTag") ∈ lw_all := lw_g (lw_at lw_m1 139 rfl) rfl
theorem q211 : (Jvm.Cond.laysFinal "DrawerRing$Ring" "DrawerRing$Ring" "loads" "[I") ∈ lw_all := lw_g (lw_at lw_m1 140 rfl) rfl
theorem q212 : (Jvm.Cond.soleField "DrawerRing$Ring" "loads") ∈ lw_all := lw_g (lw_at lw_m1 141 rfl) rfl
theorem q213 : (Jvm.Cond.laysFinal "DrawerRing$Ring" "DrawerRing$Ring" "areJammed" "[Z") ∈ lw_all := lw_g (lw_at lw_m1 142 rfl) rfl
theorem q214 : (Jvm.Cond.soleField "DrawerRing$Ring" "areJammed") ∈ lw_all := lw_g (lw_at lw_m1 143 rfl) rfl
theorem q215 : (Jvm.Cond.laysFinal "DrawerRing$Ring" "DrawerRing$Ring" "settings" "[I") ∈ lw_all := lw_g (lw_at lw_m1 144 rfl) rfl
theorem q216 : (Jvm.Cond.soleField "DrawerRing$Ring" "settings") ∈ lw_all := lw_g (lw_at lw_m1 145 rfl) rfl
theorem q217 : (Jvm.Cond.lays "DrawerRing$Ring" "DrawerRing$Ring" "window" "I") ∈ lw_all := lw_g (lw_at lw_m1 146 rfl) rfl
theorem q218 : (Jvm.Cond.soleField "DrawerRing$Ring" "window") ∈ lw_all := lw_g (lw_at lw_m1 147 rfl) rfl
theorem q219 : (Jvm.Cond.lays "DrawerRing$Ring" "DrawerRing$Ring" "numbers" "I") ∈ lw_all := lw_g (lw_at lw_m1 148 rfl) rfl
theorem q220 : (Jvm.Cond.soleField "DrawerRing$Ring" "numbers") ∈ lw_all := lw_g (lw_at lw_m1 149 rfl) rfl
theorem q221 : (Jvm.Cond.lays "DrawerRing$Ring" "DrawerRing$Ring" "up" "I") ∈ lw_all := lw_g (lw_at lw_m1 150 rfl) rfl
theorem q222 : (Jvm.Cond.soleField "DrawerRing$Ring" "up") ∈ lw_all := lw_g (lw_at lw_m1 151 rfl) rfl
theorem q223 : (Jvm.Cond.lays "DrawerRing$Ring" "DrawerRing$Ring" "down" "I") ∈ lw_all := lw_g (lw_at lw_m1 152 rfl) rfl
theorem q224 : (Jvm.Cond.soleField "DrawerRing$Ring" "down") ∈ lw_all := lw_g (lw_at lw_m1 153 rfl) rfl
theorem q225 : (Jvm.Cond.lays "DrawerRing$Ring" "DrawerRing$Ring" "longer" "I") ∈ lw_all := lw_g (lw_at lw_m1 154 rfl) rfl
theorem q226 : (Jvm.Cond.soleField "DrawerRing$Ring" "longer") ∈ lw_all := lw_g (lw_at lw_m1 155 rfl) rfl
theorem q227 : (Jvm.Cond.lays "DrawerRing$Ring" "DrawerRing$Ring" "picked" "I") ∈ lw_all := lw_g (lw_at lw_m1 156 rfl) rfl
theorem q228 : (Jvm.Cond.soleField "DrawerRing$Ring" "picked") ∈ lw_all := lw_g (lw_at lw_m1 157 rfl) rfl
theorem q229 : (Jvm.Cond.superclass "DrawerRing$Ring" "java/lang/Object") ∈ lw_all := lw_g (lw_at lw_m1 158 rfl) rfl
theorem q724 : (Jvm.Cond.instanceMethod ({ cls := "DrawerRing$Ring", name := "refusal", desc := "(I)I" } : Jvm.MethodName)) ∈ lw_all := lw_g (lw_at lw_m3 173 rfl) rfl
theorem q725 : (Jvm.Cond.selects "DrawerRing$Ring" ({ cls := "DrawerRing$Ring", name := "refusal", desc := "(I)I" } : Jvm.MethodName) ({ cls := "DrawerRing$Ring", name := "refusal", desc := "(I)I" } : Jvm.MethodName)) ∈ lw_all := lw_g (lw_at lw_m3 174 rfl) rfl
theorem q726 : (Jvm.Cond.code ({ cls := "DrawerRing$Ring", name := "refusal", desc := "(I)I" } : Jvm.MethodName) prog_5_method_14_code (3 : Nat) (Option.some Jvm.ClassFile.FieldType.int)) ∈ lw_all := lw_g (lw_at lw_m3 175 rfl) rfl
theorem q727 : (Jvm.Cond.methodLink "DrawerRing$Ring" (134 : Nat) ({ cls := "DrawerRing$Ring", name := "item", desc := "(I)LDrawerRing$Item;" } : Jvm.MethodName)) ∈ lw_all := lw_g (lw_at lw_m3 176 rfl) rfl
theorem q728 : (Jvm.Cond.instanceMethod ({ cls := "DrawerRing$Ring", name := "item", desc := "(I)LDrawerRing$Item;" } : Jvm.MethodName)) ∈ lw_all := lw_g (lw_at lw_m3 177 rfl) rfl
theorem q729 : (Jvm.Cond.selects "DrawerRing$Ring" ({ cls := "DrawerRing$Ring", name := "item", desc := "(I)LDrawerRing$Item;" } : Jvm.MethodName) ({ cls := "DrawerRing$Ring", name := "item", desc := "(I)LDrawerRing$Item;" } : Jvm.MethodName)) ∈ lw_all := lw_g (lw_at lw_m3 178 rfl) rfl
theorem q730 : (Jvm.Cond.code ({ cls := "DrawerRing$Ring", name := "item", desc := "(I)LDrawerRing$Item;" } : Jvm.MethodName) prog_5_method_5_code (2 : Nat) (Option.some (Jvm.ClassFile.FieldType.object "DrawerRing$Item"))) ∈ lw_all := lw_g (lw_at lw_m3 179 rfl) rfl
theorem q731 : (Jvm.Cond.classLink "DrawerRing$Ring" (103 : Nat) "DrawerRing$Tag") ∈ lw_all := lw_g (lw_at lw_m3 180 rfl) rfl
theorem q733 : (Jvm.Cond.methodLink "DrawerRing$Ring" (105 : Nat) ({ cls := "DrawerRing$Tag", name := "<init>", desc := "(I)V" } : Jvm.MethodName)) ∈ lw_all := lw_g (lw_at lw_m3 182 rfl) rfl
theorem q742 : (Jvm.Cond.methodLink "DrawerRing$Ring" (108 : Nat) ({ cls := "java/util/HashMap", name := "get", desc := "(Ljava/lang/Object;)Ljava/lang/Object;" } : Jvm.MethodName)) ∈ lw_all := lw_g (lw_at lw_m3 191 rfl) rfl
theorem q761 : (Jvm.Cond.selects "DrawerRing$Ring" ({ cls := "java/lang/Object", name := "hashCode", desc := "()I" } : Jvm.MethodName) ({ cls := "java/lang/Object", name := "hashCode", desc := "()I" } : Jvm.MethodName)) ∈ lw_all := lw_g (lw_at lw_m3 210 rfl) rfl
theorem q843 : (Jvm.Cond.selects "DrawerRing$Ring" ({ cls := "java/lang/Object", name := "equals", desc := "(Ljava/lang/Object;)Z" } : Jvm.MethodName) ({ cls := "java/lang/Object", name := "equals", desc := "(Ljava/lang/Object;)Z" } : Jvm.MethodName)) ∈ lw_all := lw_g (lw_at lw_m4 52 rfl) rfl
theorem q890 : (Jvm.Cond.selects "DrawerRing$Ring" ({ cls := "java/lang/Object", name := "getClass", desc := "()Ljava/lang/Class;" } : Jvm.MethodName) ({ cls := "java/lang/Object", name := "getClass", desc := "()Ljava/lang/Class;" } : Jvm.MethodName)) ∈ lw_all := lw_g (lw_at lw_m4 99 rfl) rfl
theorem q1093 : (Jvm.Cond.classLink "DrawerRing$Ring" (48 : Nat) "DrawerRing$Item") ∈ lw_all := lw_g (lw_at lw_m5 62 rfl) rfl
theorem q1094 : (Jvm.Cond.methodLink "DrawerRing$Ring" (131 : Nat) ({ cls := "DrawerRing$Ring", name := "way", desc := "(I)I" } : Jvm.MethodName)) ∈ lw_all := lw_g (lw_at lw_m5 63 rfl) rfl
theorem q1095 : (Jvm.Cond.instanceMethod ({ cls := "DrawerRing$Ring", name := "way", desc := "(I)I" } : Jvm.MethodName)) ∈ lw_all := lw_g (lw_at lw_m5 64 rfl) rfl
theorem q1096 : (Jvm.Cond.selects "DrawerRing$Ring" ({ cls := "DrawerRing$Ring", name := "way", desc := "(I)I" } : Jvm.MethodName) ({ cls := "DrawerRing$Ring", name := "way", desc := "(I)I" } : Jvm.MethodName)) ∈ lw_all := lw_g (lw_at lw_m5 65 rfl) rfl
theorem q1097 : (Jvm.Cond.code ({ cls := "DrawerRing$Ring", name := "way", desc := "(I)I" } : Jvm.MethodName) prog_5_method_12_code (6 : Nat) (Option.some Jvm.ClassFile.FieldType.int)) ∈ lw_all := lw_g (lw_at lw_m5 66 rfl) rfl
theorem q1098 : (Jvm.Cond.methodLink "DrawerRing$Ring" (124 : Nat) ({ cls := "DrawerRing$Ring", name := "place", desc := "(II)I" } : Jvm.MethodName)) ∈ lw_all := lw_g (lw_at lw_m5 67 rfl) rfl
theorem q1099 : (Jvm.Cond.instanceMethod ({ cls := "DrawerRing$Ring", name := "place", desc := "(II)I" } : Jvm.MethodName)) ∈ lw_all := lw_g (lw_at lw_m5 68 rfl) rfl
theorem q1100 : (Jvm.Cond.selects "DrawerRing$Ring" ({ cls := "DrawerRing$Ring", name := "place", desc := "(II)I" } : Jvm.MethodName) ({ cls := "DrawerRing$Ring", name := "place", desc := "(II)I" } : Jvm.MethodName)) ∈ lw_all := lw_g (lw_at lw_m5 69 rfl) rfl
theorem q1101 : (Jvm.Cond.code ({ cls := "DrawerRing$Ring", name := "place", desc := "(II)I" } : Jvm.MethodName) prog_5_method_7_code (3 : Nat) (Option.some Jvm.ClassFile.FieldType.int)) ∈ lw_all := lw_g (lw_at lw_m5 70 rfl) rfl
theorem q1102 : (Jvm.Cond.methodLink "DrawerRing$Ring" (127 : Nat) ({ cls := "DrawerRing$Ring", name := "isOpen", desc := "(II)Z" } : Jvm.MethodName)) ∈ lw_all := lw_g (lw_at lw_m5 71 rfl) rfl
theorem q1103 : (Jvm.Cond.privateMethod ({ cls := "DrawerRing$Ring", name := "isOpen", desc := "(II)Z" } : Jvm.MethodName)) ∈ lw_tbl := lw_at lw_m5 72 rfl
theorem q1104 : (Jvm.Cond.instanceMethod ({ cls := "DrawerRing$Ring", name := "isOpen", desc := "(II)Z" } : Jvm.MethodName)) ∈ lw_all := lw_g (lw_at lw_m5 73 rfl) rfl
theorem q1105 : (Jvm.Cond.code ({ cls := "DrawerRing$Ring", name := "isOpen", desc := "(II)Z" } : Jvm.MethodName) prog_5_method_11_code (5 : Nat) (Option.some Jvm.ClassFile.FieldType.boolean)) ∈ lw_all := lw_g (lw_at lw_m5 74 rfl) rfl
theorem q1106 : (Jvm.Cond.methodLink "DrawerRing$Ring" (117 : Nat) ({ cls := "DrawerRing$Ring", name := "imbalance", desc := "(I)I" } : Jvm.MethodName)) ∈ lw_all := lw_g (lw_at lw_m5 75 rfl) rfl
theorem q1107 : (Jvm.Cond.instanceMethod ({ cls := "DrawerRing$Ring", name := "imbalance", desc := "(I)I" } : Jvm.MethodName)) ∈ lw_all := lw_g (lw_at lw_m5 76 rfl) rfl
theorem q1108 : (Jvm.Cond.selects "DrawerRing$Ring" ({ cls := "DrawerRing$Ring", name := "imbalance", desc := "(I)I" } : Jvm.MethodName) ({ cls := "DrawerRing$Ring", name := "imbalance", desc := "(I)I" } : Jvm.MethodName)) ∈ lw_all := lw_g (lw_at lw_m5 77 rfl) rfl
theorem q1109 : (Jvm.Cond.code ({ cls := "DrawerRing$Ring", name := "imbalance", desc := "(I)I" } : Jvm.MethodName) prog_5_method_8_code (4 : Nat) (Option.some Jvm.ClassFile.FieldType.int)) ∈ lw_all := lw_g (lw_at lw_m5 78 rfl) rfl
theorem q1110 : (Jvm.Cond.methodLink "DrawerRing$Ring" (111 : Nat) ({ cls := "java/lang/Math", name := "abs", desc := "(I)I" } : Jvm.MethodName)) ∈ lw_all := lw_g (lw_at lw_m5 79 rfl) rfl
theorem q1146 : (Jvm.Cond.instanceMethod ({ cls := "DrawerRing$Ring", name := "worst", desc := "()I" } : Jvm.MethodName)) ∈ lw_all := lw_g (lw_at lw_m5 115 rfl) rfl
theorem q1147 : (Jvm.Cond.selects "DrawerRing$Ring" ({ cls := "DrawerRing$Ring", name := "worst", desc := "()I" } : Jvm.MethodName) ({ cls := "DrawerRing$Ring", name := "worst", desc := "()I" } : Jvm.MethodName)) ∈ lw_all := lw_g (lw_at lw_m5 116 rfl) rfl
theorem q1148 : (Jvm.Cond.code ({ cls := "DrawerRing$Ring", name := "worst", desc := "()I" } : Jvm.MethodName) prog_5_method_10_code (3 : Nat) (Option.some Jvm.ClassFile.FieldType.int)) ∈ lw_all := lw_g (lw_at lw_m5 117 rfl) rfl
theorem q1149 : (Jvm.Cond.methodLink "DrawerRing$Ring" (120 : Nat) ({ cls := "java/lang/Math", name := "max", desc := "(II)I" } : Jvm.MethodName)) ∈ lw_all := lw_g (lw_at lw_m5 118 rfl) rfl
theorem q1151 : (Jvm.Cond.instanceMethod ({ cls := "DrawerRing$Ring", name := "steps", desc := "()I" } : Jvm.MethodName)) ∈ lw_all := lw_g (lw_at lw_m5 120 rfl) rfl
theorem q1152 : (Jvm.Cond.selects "DrawerRing$Ring" ({ cls := "DrawerRing$Ring", name := "steps", desc := "()I" } : Jvm.MethodName) ({ cls := "DrawerRing$Ring", name := "steps", desc := "()I" } : Jvm.MethodName)) ∈ lw_all := lw_g (lw_at lw_m5 121 rfl) rfl
theorem q1153 : (Jvm.Cond.code ({ cls := "DrawerRing$Ring", name := "steps", desc := "()I" } : Jvm.MethodName) prog_5_method_16_code (1 : Nat) (Option.some Jvm.ClassFile.FieldType.int)) ∈ lw_all := lw_g (lw_at lw_m5 122 rfl) rfl
theorem q1207 : (Jvm.Cond.instanceMethod ({ cls := "DrawerRing$Ring", name := "become", desc := "(LDrawerRing$Ring;)V" } : Jvm.MethodName)) ∈ lw_all := lw_g (lw_at lw_m5 176 rfl) rfl
theorem q1208 : (Jvm.Cond.selects "DrawerRing$Ring" ({ cls := "DrawerRing$Ring", name := "become", desc := "(LDrawerRing$Ring;)V" } : Jvm.MethodName) ({ cls := "DrawerRing$Ring", name := "become", desc := "(LDrawerRing$Ring;)V" } : Jvm.MethodName)) ∈ lw_all := lw_g (lw_at lw_m5 177 rfl) rfl
theorem q1209 : (Jvm.Cond.code ({ cls := "DrawerRing$Ring", name := "become", desc := "(LDrawerRing$Ring;)V" } : Jvm.MethodName) prog_5_method_2_code (4 : Nat) (Option.none : Option Jvm.ClassFile.FieldType)) ∈ lw_all := lw_g (lw_at lw_m5 178 rfl) rfl
theorem q1210 : (Jvm.Cond.methodLink "DrawerRing$Ring" (36 : Nat) ({ cls := "java/util/ArrayList", name := "clear", desc := "()V" } : Jvm.MethodName)) ∈ lw_all := lw_g (lw_at lw_m5 179 rfl) rfl
theorem q1214 : (Jvm.Cond.methodLink "DrawerRing$Ring" (39 : Nat) ({ cls := "java/util/HashMap", name := "clear", desc := "()V" } : Jvm.MethodName)) ∈ lw_all := lw_g (lw_at lw_m5 183 rfl) rfl
theorem q1218 : (Jvm.Cond.methodLink "DrawerRing$Ring" (40 : Nat) ({ cls := "java/util/ArrayList", name := "size", desc := "()I" } : Jvm.MethodName)) ∈ lw_all := lw_g (lw_at lw_m5 187 rfl) rfl
theorem q1219 : (Jvm.Cond.methodLink "DrawerRing$Ring" (44 : Nat) ({ cls := "java/util/ArrayList", name := "get", desc := "(I)Ljava/lang/Object;" } : Jvm.MethodName)) ∈ lw_all := lw_g (lw_at lw_m5 188 rfl) rfl
theorem q1221 : (Jvm.Cond.methodLink "DrawerRing$Ring" (61 : Nat) ({ cls := "DrawerRing$Item", name := "<init>", desc := "(LDrawerRing$Tag;II)V" } : Jvm.MethodName)) ∈ lw_all := lw_g (lw_at lw_m5 190 rfl) rfl
theorem q1226 : (Jvm.Cond.fieldLinkNest "DrawerRing$Ring" (50 : Nat) "DrawerRing$Item" "tag" "LDrawerRing$Tag;" "DrawerRing") ∈ lw_tbl := lw_at lw_m5 195 rfl
theorem q1229 : (Jvm.Cond.fieldLinkNest "DrawerRing$Ring" (54 : Nat) "DrawerRing$Item" "weight" "I" "DrawerRing") ∈ lw_tbl := lw_at lw_m5 198 rfl
theorem q1233 : (Jvm.Cond.fieldLinkNest "DrawerRing$Ring" (58 : Nat) "DrawerRing$Item" "drawer" "I" "DrawerRing") ∈ lw_tbl := lw_at lw_m5 202 rfl
theorem q1243 : (Jvm.Cond.methodLink "DrawerRing$Ring" (64 : Nat) ({ cls := "DrawerRing$Ring", name := "add", desc := "(LDrawerRing$Item;)V" } : Jvm.MethodName)) ∈ lw_all := lw_g (lw_at lw_m5 212 rfl) rfl
theorem q1244 : (Jvm.Cond.privateMethod ({ cls := "DrawerRing$Ring", name := "add", desc := "(LDrawerRing$Item;)V" } : Jvm.MethodName)) ∈ lw_tbl := lw_at lw_m5 213 rfl
theorem q1245 : (Jvm.Cond.instanceMethod ({ cls := "DrawerRing$Ring", name := "add", desc := "(LDrawerRing$Item;)V" } : Jvm.MethodName)) ∈ lw_all := lw_g (lw_at lw_m5 214 rfl) rfl
theorem q1246 : (Jvm.Cond.code ({ cls := "DrawerRing$Ring", name := "add", desc := "(LDrawerRing$Item;)V" } : Jvm.MethodName) prog_5_method_4_code (2 : Nat) (Option.none : Option Jvm.ClassFile.FieldType)) ∈ lw_all := lw_g (lw_at lw_m5 215 rfl) rfl
theorem q1247 : (Jvm.Cond.methodLink "DrawerRing$Ring" (96 : Nat) ({ cls := "java/util/ArrayList", name := "add", desc := "(Ljava/lang/Object;)Z" } : Jvm.MethodName)) ∈ lw_all := lw_g (lw_at lw_m5 216 rfl) rfl
theorem q1276 : (Jvm.Cond.methodLink "DrawerRing$Ring" (99 : Nat) ({ cls := "java/util/HashMap", name := "put", desc := "(Ljava/lang/Object;Ljava/lang/Object;)Ljava/lang/Object;" } : Jvm.MethodName)) ∈ lw_all := lw_g (lw_at lw_m6 5 rfl) rfl
theorem q1416 : (Jvm.Cond.methodLink "DrawerRing$Ring" (68 : Nat) ({ cls := "java/lang/System", name := "arraycopy", desc := "(Ljava/lang/Object;ILjava/lang/Object;II)V" } : Jvm.MethodName)) ∈ lw_all := lw_g (lw_at lw_m6 145 rfl) rfl
theorem q1417 : (Jvm.Cond.methodLink "DrawerRing$Ring" (74 : Nat) ({ cls := "DrawerRing$Ring", name := "turnAs", desc := "(LDrawerRing$Ring;)V" } : Jvm.MethodName)) ∈ lw_all := lw_g (lw_at lw_m6 146 rfl) rfl
theorem q1418 : (Jvm.Cond.instanceMethod ({ cls := "DrawerRing$Ring", name := "turnAs", desc := "(LDrawerRing$Ring;)V" } : Jvm.MethodName)) ∈ lw_all := lw_g (lw_at lw_m6 147 rfl) rfl
theorem q1419 : (Jvm.Cond.selects "DrawerRing$Ring" ({ cls := "DrawerRing$Ring", name := "turnAs", desc := "(LDrawerRing$Ring;)V" } : Jvm.MethodName) ({ cls := "DrawerRing$Ring", name := "turnAs", desc := "(LDrawerRing$Ring;)V" } : Jvm.MethodName)) ∈ lw_all := lw_g (lw_at lw_m6 148 rfl) rfl
theorem q1420 : (Jvm.Cond.code ({ cls := "DrawerRing$Ring", name := "turnAs", desc := "(LDrawerRing$Ring;)V" } : Jvm.MethodName) prog_5_method_3_code (2 : Nat) (Option.none : Option Jvm.ClassFile.FieldType)) ∈ lw_all := lw_g (lw_at lw_m6 149 rfl) rfl
theorem q1436 : (Jvm.Cond.instanceMethod ({ cls := "DrawerRing$Ring", name := "pick", desc := "(LDrawerRing$Item;)I" } : Jvm.MethodName)) ∈ lw_all := lw_g (lw_at lw_m6 165 rfl) rfl
theorem q1437 : (Jvm.Cond.selects "DrawerRing$Ring" ({ cls := "DrawerRing$Ring", name := "pick", desc := "(LDrawerRing$Item;)I" } : Jvm.MethodName) ({ cls := "DrawerRing$Ring", name := "pick", desc := "(LDrawerRing$Item;)I" } : Jvm.MethodName)) ∈ lw_all := lw_g (lw_at lw_m6 166 rfl) rfl
theorem q1438 : (Jvm.Cond.code ({ cls := "DrawerRing$Ring", name := "pick", desc := "(LDrawerRing$Item;)I" } : Jvm.MethodName) prog_5_method_15_code (3 : Nat) (Option.some Jvm.ClassFile.FieldType.int)) ∈ lw_all := lw_g (lw_at lw_m6 167 rfl) rfl
theorem q1439 : (Jvm.Cond.methodLink "DrawerRing$Ring" (138 : Nat) ({ cls := "DrawerRing$Ring", name := "turn", desc := "(I)I" } : Jvm.MethodName)) ∈ lw_all := lw_g (lw_at lw_m6 168 rfl) rfl
theorem q1440 : (Jvm.Cond.instanceMethod ({ cls := "DrawerRing$Ring", name := "turn", desc := "(I)I" } : Jvm.MethodName)) ∈ lw_all := lw_g (lw_at lw_m6 169 rfl) rfl
theorem q1441 : (Jvm.Cond.selects "DrawerRing$Ring" ({ cls := "DrawerRing$Ring", name := "turn", desc := "(I)I" } : Jvm.MethodName) ({ cls := "DrawerRing$Ring", name := "turn", desc := "(I)I" } : Jvm.MethodName)) ∈ lw_all := lw_g (lw_at lw_m6 170 rfl) rfl
theorem q1442 : (Jvm.Cond.code ({ cls := "DrawerRing$Ring", name := "turn", desc := "(I)I" } : Jvm.MethodName) prog_5_method_13_code (4 : Nat) (Option.some Jvm.ClassFile.FieldType.int)) ∈ lw_all := lw_g (lw_at lw_m6 171 rfl) rfl
theorem q1443 : (Jvm.Cond.methodLink "DrawerRing$Ring" (141 : Nat) ({ cls := "java/util/ArrayList", name := "remove", desc := "(Ljava/lang/Object;)Z" } : Jvm.MethodName)) ∈ lw_all := lw_g (lw_at lw_m6 172 rfl) rfl
theorem q1453 : (Jvm.Cond.methodLink "DrawerRing$Ring" (144 : Nat) ({ cls := "java/util/HashMap", name := "remove", desc := "(Ljava/lang/Object;)Ljava/lang/Object;" } : Jvm.MethodName)) ∈ lw_all := lw_g (lw_at lw_m6 182 rfl) rfl
theorem q1569 : (Jvm.Cond.instanceMethod ({ cls := "DrawerRing$Ring", name := "isBalanced", desc := "()Z" } : Jvm.MethodName)) ∈ lw_all := lw_g (lw_at lw_m7 58 rfl) rfl
theorem q1570 : (Jvm.Cond.selects "DrawerRing$Ring" ({ cls := "DrawerRing$Ring", name := "isBalanced", desc := "()Z" } : Jvm.MethodName) ({ cls := "DrawerRing$Ring", name := "isBalanced", desc := "()Z" } : Jvm.MethodName)) ∈ lw_all := lw_g (lw_at lw_m7 59 rfl) rfl
theorem q1571 : (Jvm.Cond.code ({ cls := "DrawerRing$Ring", name := "isBalanced", desc := "()Z" } : Jvm.MethodName) prog_5_method_9_code (1 : Nat) (Option.some Jvm.ClassFile.FieldType.boolean)) ∈ lw_all := lw_g (lw_at lw_m7 60 rfl) rfl
theorem q1600 : (Jvm.Cond.instanceMethod ({ cls := "DrawerRing$Ring", name := "put", desc := "(II)V" } : Jvm.MethodName)) ∈ lw_all := lw_g (lw_at lw_m7 89 rfl) rfl
theorem q1601 : (Jvm.Cond.selects "DrawerRing$Ring" ({ cls := "DrawerRing$Ring", name := "put", desc := "(II)V" } : Jvm.MethodName) ({ cls := "DrawerRing$Ring", name := "put", desc := "(II)V" } : Jvm.MethodName)) ∈ lw_all := lw_g (lw_at lw_m7 90 rfl) rfl
theorem q1602 : (Jvm.Cond.code ({ cls := "DrawerRing$Ring", name := "put", desc := "(II)V" } : Jvm.MethodName) prog_5_method_6_code (3 : Nat) (Option.none : Option Jvm.ClassFile.FieldType)) ∈ lw_all := lw_g (lw_at lw_m7 91 rfl) rfl
theorem q2082 : (Jvm.Cond.castable "DrawerRing$Ring" "java/lang/Object") ∈ lw_tbl := lw_at lw_m9 91 rfl
theorem in_X2 : ∀ w ∈ wsX20, w ∈ lw_all := lw_in wsX20 [207, 209, 211, 213, 215, 217, 219, 221, 223, 225, 227] (by decide +kernel) (by decide +kernel)

/-! DrawerRing$Item -/
set_option maxRecDepth 100000
def RX4 : String := "DrawerRing$Item"
def TX4 : u_T := fun k => match k with
  | 0 => ("DrawerRing$Item", "tag", "LDrawerRing$Tag;", true)
  | 1 => ("DrawerRing$Item", "weight", "I", true)
  | _ => ("DrawerRing$Item", "drawer", "I", false)
def tyX4 : Nat → FieldType := fun k => match k with
  | 0 => .object "DrawerRing$Tag"
  | 1 => .int
  | _ => .int
abbrev wsX40 : List Cond := u_ws RX4 TX4 3
theorem nmX4 : ∀ a, a < 3 → ∀ b, b < 3 → a ≠ b → (TX4 a).2.1 ≠ (TX4 b).2.1 := by decide +kernel
theorem tyX4_ok : ∀ k, k < 3 → parseFieldDescriptor (TX4 k).2.2.1 = some (tyX4 k) := by decide +kernel
abbrev cX4_init : ByteArray := prog_3_method_1_code
def yX4_init : MethodName := ⟨RX4, "<init>", "(LDrawerRing$Tag;II)V"⟩
def dkwX4_init_0 : List UInt8 := [42, 183, 0, 1, 42, 43, 181, 0, 7, 42, 28, 181, 0, 13, 42, 29, 181, 0, 17, 177]
abbrev dktX4_init_0 : List UInt8 := dkwX4_init_0 ++ []
theorem dksX4_init_0 : cX4_init.data.toList.drop 0 = dktX4_init_0 := by decide +kernel
theorem dX4_init_0 : decode cX4_init 0 = .ok (.aload_n 0, 1) := dk_42 (dk_at dksX4_init_0 0 rfl rfl)
theorem dX4_init_1 : decode cX4_init 1 = .ok (.invokespecial 1, 3) := dk_183 0 1 (dk_at dksX4_init_0 1 rfl rfl)
theorem dX4_init_4 : decode cX4_init 4 = .ok (.aload_n 0, 1) := dk_42 (dk_at dksX4_init_0 4 rfl rfl)
theorem dX4_init_5 : decode cX4_init 5 = .ok (.aload_n 1, 1) := dk_43 (dk_at dksX4_init_0 5 rfl rfl)
theorem dX4_init_6 : decode cX4_init 6 = .ok (.putfield 7, 3) := dk_181 0 7 (dk_at dksX4_init_0 6 rfl rfl)
theorem dX4_init_9 : decode cX4_init 9 = .ok (.aload_n 0, 1) := dk_42 (dk_at dksX4_init_0 9 rfl rfl)
theorem dX4_init_10 : decode cX4_init 10 = .ok (.iload_n 2, 1) := dk_28 (dk_at dksX4_init_0 10 rfl rfl)
theorem dX4_init_11 : decode cX4_init 11 = .ok (.putfield 13, 3) := dk_181 0 13 (dk_at dksX4_init_0 11 rfl rfl)
theorem dX4_init_14 : decode cX4_init 14 = .ok (.aload_n 0, 1) := dk_42 (dk_at dksX4_init_0 14 rfl rfl)
theorem dX4_init_15 : decode cX4_init 15 = .ok (.iload_n 3, 1) := dk_29 (dk_at dksX4_init_0 15 rfl rfl)
theorem dX4_init_16 : decode cX4_init 16 = .ok (.putfield 17, 3) := dk_181 0 17 (dk_at dksX4_init_0 16 rfl rfl)
theorem dX4_init_19 : decode cX4_init 19 = .ok (.return_, 1) := dk_177 (dk_at dksX4_init_0 19 rfl rfl)
theorem q95 : (Jvm.Cond.initialized "DrawerRing$Item") ∈ lw_all := lw_g (lw_at lw_m1 24 rfl) rfl
theorem q759 : (Jvm.Cond.selects "DrawerRing$Item" ({ cls := "java/lang/Object", name := "hashCode", desc := "()I" } : Jvm.MethodName) ({ cls := "java/lang/Object", name := "hashCode", desc := "()I" } : Jvm.MethodName)) ∈ lw_all := lw_g (lw_at lw_m3 208 rfl) rfl
theorem q841 : (Jvm.Cond.selects "DrawerRing$Item" ({ cls := "java/lang/Object", name := "equals", desc := "(Ljava/lang/Object;)Z" } : Jvm.MethodName) ({ cls := "java/lang/Object", name := "equals", desc := "(Ljava/lang/Object;)Z" } : Jvm.MethodName)) ∈ lw_all := lw_g (lw_at lw_m4 50 rfl) rfl
theorem q888 : (Jvm.Cond.selects "DrawerRing$Item" ({ cls := "java/lang/Object", name := "getClass", desc := "()Ljava/lang/Class;" } : Jvm.MethodName) ({ cls := "java/lang/Object", name := "getClass", desc := "()Ljava/lang/Class;" } : Jvm.MethodName)) ∈ lw_all := lw_g (lw_at lw_m4 97 rfl) rfl
theorem q1220 : (Jvm.Cond.instantiable "DrawerRing$Item" (3 : Nat)) ∈ lw_all := lw_g (lw_at lw_m5 189 rfl) rfl
theorem q1222 : (Jvm.Cond.instanceMethod ({ cls := "DrawerRing$Item", name := "<init>", desc := "(LDrawerRing$Tag;II)V" } : Jvm.MethodName)) ∈ lw_all := lw_g (lw_at lw_m5 191 rfl) rfl
theorem q1223 : (Jvm.Cond.code ({ cls := "DrawerRing$Item", name := "<init>", desc := "(LDrawerRing$Tag;II)V" } : Jvm.MethodName) prog_3_method_1_code (4 : Nat) (Option.none : Option Jvm.ClassFile.FieldType)) ∈ lw_all := lw_g (lw_at lw_m5 192 rfl) rfl
theorem q1224 : (Jvm.Cond.methodLink "DrawerRing$Item" (1 : Nat) ({ cls := "java/lang/Object", name := "<init>", desc := "()V" } : Jvm.MethodName)) ∈ lw_all := lw_g (lw_at lw_m5 193 rfl) rfl
theorem q1225 : (Jvm.Cond.fieldLink "DrawerRing$Item" (7 : Nat) "DrawerRing$Item" "tag" "LDrawerRing$Tag;") ∈ lw_all := lw_g (lw_at lw_m5 194 rfl) rfl
theorem q1228 : (Jvm.Cond.fieldLink "DrawerRing$Item" (13 : Nat) "DrawerRing$Item" "weight" "I") ∈ lw_all := lw_g (lw_at lw_m5 197 rfl) rfl
theorem q1232 : (Jvm.Cond.fieldLink "DrawerRing$Item" (17 : Nat) "DrawerRing$Item" "drawer" "I") ∈ lw_all := lw_g (lw_at lw_m5 201 rfl) rfl
theorem q1236 : (Jvm.Cond.laysFinal "DrawerRing$Item" "DrawerRing$Item" "tag" "LDrawerRing$Tag;") ∈ lw_all := lw_g (lw_at lw_m5 205 rfl) rfl
theorem q1237 : (Jvm.Cond.soleField "DrawerRing$Item" "tag") ∈ lw_all := lw_g (lw_at lw_m5 206 rfl) rfl
theorem q1238 : (Jvm.Cond.laysFinal "DrawerRing$Item" "DrawerRing$Item" "weight" "I") ∈ lw_all := lw_g (lw_at lw_m5 207 rfl) rfl
theorem q1239 : (Jvm.Cond.soleField "DrawerRing$Item" "weight") ∈ lw_all := lw_g (lw_at lw_m5 208 rfl) rfl
theorem q1240 : (Jvm.Cond.lays "DrawerRing$Item" "DrawerRing$Item" "drawer" "I") ∈ lw_all := lw_g (lw_at lw_m5 209 rfl) rfl
theorem q1241 : (Jvm.Cond.soleField "DrawerRing$Item" "drawer") ∈ lw_all := lw_g (lw_at lw_m5 210 rfl) rfl
theorem q1242 : (Jvm.Cond.superclass "DrawerRing$Item" "java/lang/Object") ∈ lw_all := lw_g (lw_at lw_m5 211 rfl) rfl
theorem q2080 : (Jvm.Cond.castable "DrawerRing$Item" "java/lang/Object") ∈ lw_tbl := lw_at lw_m9 89 rfl
theorem in_X4 : ∀ w ∈ wsX40, w ∈ lw_all := lw_in wsX40 [1236, 1238, 1240] (by decide +kernel) (by decide +kernel)

/-! DrawerRing$Tag -/
set_option maxRecDepth 100000
def RX5 : String := "DrawerRing$Tag"
def TX5 : u_T := fun k => match k with
  | _ => ("DrawerRing$Tag", "number", "I", true)
def tyX5 : Nat → FieldType := fun k => match k with
  | _ => .int
abbrev wsX50 : List Cond := u_ws RX5 TX5 1
theorem nmX5 : ∀ a, a < 1 → ∀ b, b < 1 → a ≠ b → (TX5 a).2.1 ≠ (TX5 b).2.1 := by decide +kernel
theorem tyX5_ok : ∀ k, k < 1 → parseFieldDescriptor (TX5 k).2.2.1 = some (tyX5 k) := by decide +kernel
abbrev cX5_init : ByteArray := prog_6_method_1_code
def yX5_init : MethodName := ⟨RX5, "<init>", "(I)V"⟩
def dkwX5_init_0 : List UInt8 := [42, 183, 0, 1, 42, 27, 181, 0, 7, 177]
abbrev dktX5_init_0 : List UInt8 := dkwX5_init_0 ++ []
theorem dksX5_init_0 : cX5_init.data.toList.drop 0 = dktX5_init_0 := by decide +kernel
theorem dX5_init_0 : decode cX5_init 0 = .ok (.aload_n 0, 1) := dk_42 (dk_at dksX5_init_0 0 rfl rfl)
theorem dX5_init_1 : decode cX5_init 1 = .ok (.invokespecial 1, 3) := dk_183 0 1 (dk_at dksX5_init_0 1 rfl rfl)
theorem dX5_init_4 : decode cX5_init 4 = .ok (.aload_n 0, 1) := dk_42 (dk_at dksX5_init_0 4 rfl rfl)
theorem dX5_init_5 : decode cX5_init 5 = .ok (.iload_n 1, 1) := dk_27 (dk_at dksX5_init_0 5 rfl rfl)
theorem dX5_init_6 : decode cX5_init 6 = .ok (.putfield 7, 3) := dk_181 0 7 (dk_at dksX5_init_0 6 rfl rfl)
theorem dX5_init_9 : decode cX5_init 9 = .ok (.return_, 1) := dk_177 (dk_at dksX5_init_0 9 rfl rfl)
abbrev cX5_hashCode : ByteArray := prog_6_method_3_code
def yX5_hashCode : MethodName := ⟨RX5, "hashCode", "()I"⟩
def dkwX5_hashCode_0 : List UInt8 := [16, 31, 42, 180, 0, 7, 104, 16, 17, 96, 172]
abbrev dktX5_hashCode_0 : List UInt8 := dkwX5_hashCode_0 ++ []
theorem dksX5_hashCode_0 : cX5_hashCode.data.toList.drop 0 = dktX5_hashCode_0 := by decide +kernel
theorem dX5_hashCode_0 : decode cX5_hashCode 0 = .ok (.bipush 31, 2) := dk_16 31 (dk_at dksX5_hashCode_0 0 rfl rfl)
theorem dX5_hashCode_2 : decode cX5_hashCode 2 = .ok (.aload_n 0, 1) := dk_42 (dk_at dksX5_hashCode_0 2 rfl rfl)
theorem dX5_hashCode_3 : decode cX5_hashCode 3 = .ok (.getfield 7, 3) := dk_180 0 7 (dk_at dksX5_hashCode_0 3 rfl rfl)
theorem dX5_hashCode_6 : decode cX5_hashCode 6 = .ok (.imul, 1) := dk_104 (dk_at dksX5_hashCode_0 6 rfl rfl)
theorem dX5_hashCode_7 : decode cX5_hashCode 7 = .ok (.bipush 17, 2) := dk_16 17 (dk_at dksX5_hashCode_0 7 rfl rfl)
theorem dX5_hashCode_9 : decode cX5_hashCode 9 = .ok (.iadd, 1) := dk_96 (dk_at dksX5_hashCode_0 9 rfl rfl)
theorem dX5_hashCode_10 : decode cX5_hashCode 10 = .ok (.ireturn, 1) := dk_172 (dk_at dksX5_hashCode_0 10 rfl rfl)
abbrev cX5_equals : ByteArray := prog_6_method_2_code
def yX5_equals : MethodName := ⟨RX5, "equals", "(Ljava/lang/Object;)Z"⟩
def dkwX5_equals_1 : List UInt8 := [167, 0, 4, 3, 172]
abbrev dktX5_equals_1 : List UInt8 := dkwX5_equals_1 ++ []
def dkwX5_equals_0 : List UInt8 := [43, 193, 0, 8, 153, 0, 21, 43, 192, 0, 8, 180, 0, 7, 42, 180, 0, 7, 160, 0, 7, 4]
abbrev dktX5_equals_0 : List UInt8 := dkwX5_equals_0 ++ dktX5_equals_1
theorem dksX5_equals_0 : cX5_equals.data.toList.drop 0 = dktX5_equals_0 := by decide +kernel
theorem dksX5_equals_1 : cX5_equals.data.toList.drop 22 = dktX5_equals_1 := dk_seg dksX5_equals_0 22 rfl rfl
theorem dX5_equals_0 : decode cX5_equals 0 = .ok (.aload_n 1, 1) := dk_43 (dk_at dksX5_equals_0 0 rfl rfl)
theorem dX5_equals_1 : decode cX5_equals 1 = .ok (.instanceof 8, 3) := dk_193 0 8 (dk_at dksX5_equals_0 1 rfl rfl)
theorem dX5_equals_4 : decode cX5_equals 4 = .ok (.ifCond .eq 21, 3) := dk_153 0 21 (dk_at dksX5_equals_0 4 rfl rfl)
theorem dX5_equals_7 : decode cX5_equals 7 = .ok (.aload_n 1, 1) := dk_43 (dk_at dksX5_equals_0 7 rfl rfl)
theorem dX5_equals_8 : decode cX5_equals 8 = .ok (.checkcast 8, 3) := dk_192 0 8 (dk_at dksX5_equals_0 8 rfl rfl)
theorem dX5_equals_11 : decode cX5_equals 11 = .ok (.getfield 7, 3) := dk_180 0 7 (dk_at dksX5_equals_0 11 rfl rfl)
theorem dX5_equals_14 : decode cX5_equals 14 = .ok (.aload_n 0, 1) := dk_42 (dk_at dksX5_equals_0 14 rfl rfl)
theorem dX5_equals_15 : decode cX5_equals 15 = .ok (.getfield 7, 3) := dk_180 0 7 (dk_at dksX5_equals_0 15 rfl rfl)
theorem dX5_equals_18 : decode cX5_equals 18 = .ok (.if_icmp .ne 7, 3) := dk_160 0 7 (dk_at dksX5_equals_0 18 rfl rfl)
theorem dX5_equals_21 : decode cX5_equals 21 = .ok (.iconst 1, 1) := dk_4 (dk_at dksX5_equals_0 21 rfl rfl)
theorem dX5_equals_22 : decode cX5_equals 22 = .ok (.goto 4, 3) := dk_167 0 4 (dk_at dksX5_equals_1 0 rfl rfl)
theorem dX5_equals_25 : decode cX5_equals 25 = .ok (.iconst 0, 1) := dk_3 (dk_at dksX5_equals_1 3 rfl rfl)
theorem dX5_equals_26 : decode cX5_equals 26 = .ok (.ireturn, 1) := dk_172 (dk_at dksX5_equals_1 4 rfl rfl)
theorem q107 : (Jvm.Cond.initialized "DrawerRing$Tag") ∈ lw_all := lw_g (lw_at lw_m1 36 rfl) rfl
theorem q732 : (Jvm.Cond.instantiable "DrawerRing$Tag" (1 : Nat)) ∈ lw_all := lw_g (lw_at lw_m3 181 rfl) rfl
theorem q734 : (Jvm.Cond.instanceMethod ({ cls := "DrawerRing$Tag", name := "<init>", desc := "(I)V" } : Jvm.MethodName)) ∈ lw_all := lw_g (lw_at lw_m3 183 rfl) rfl
theorem q735 : (Jvm.Cond.code ({ cls := "DrawerRing$Tag", name := "<init>", desc := "(I)V" } : Jvm.MethodName) prog_6_method_1_code (2 : Nat) (Option.none : Option Jvm.ClassFile.FieldType)) ∈ lw_all := lw_g (lw_at lw_m3 184 rfl) rfl
theorem q736 : (Jvm.Cond.methodLink "DrawerRing$Tag" (1 : Nat) ({ cls := "java/lang/Object", name := "<init>", desc := "()V" } : Jvm.MethodName)) ∈ lw_all := lw_g (lw_at lw_m3 185 rfl) rfl
theorem q737 : (Jvm.Cond.fieldLink "DrawerRing$Tag" (7 : Nat) "DrawerRing$Tag" "number" "I") ∈ lw_all := lw_g (lw_at lw_m3 186 rfl) rfl
theorem q739 : (Jvm.Cond.laysFinal "DrawerRing$Tag" "DrawerRing$Tag" "number" "I") ∈ lw_all := lw_g (lw_at lw_m3 188 rfl) rfl
theorem q740 : (Jvm.Cond.soleField "DrawerRing$Tag" "number") ∈ lw_all := lw_g (lw_at lw_m3 189 rfl) rfl
theorem q741 : (Jvm.Cond.superclass "DrawerRing$Tag" "java/lang/Object") ∈ lw_all := lw_g (lw_at lw_m3 190 rfl) rfl
theorem q762 : (Jvm.Cond.selects "DrawerRing$Tag" ({ cls := "java/lang/Object", name := "hashCode", desc := "()I" } : Jvm.MethodName) ({ cls := "DrawerRing$Tag", name := "hashCode", desc := "()I" } : Jvm.MethodName)) ∈ lw_all := lw_g (lw_at lw_m3 211 rfl) rfl
theorem q763 : (Jvm.Cond.instanceMethod ({ cls := "DrawerRing$Tag", name := "hashCode", desc := "()I" } : Jvm.MethodName)) ∈ lw_all := lw_g (lw_at lw_m3 212 rfl) rfl
theorem q764 : (Jvm.Cond.code ({ cls := "DrawerRing$Tag", name := "hashCode", desc := "()I" } : Jvm.MethodName) prog_6_method_3_code (1 : Nat) (Option.some Jvm.ClassFile.FieldType.int)) ∈ lw_all := lw_g (lw_at lw_m3 213 rfl) rfl
theorem q844 : (Jvm.Cond.selects "DrawerRing$Tag" ({ cls := "java/lang/Object", name := "equals", desc := "(Ljava/lang/Object;)Z" } : Jvm.MethodName) ({ cls := "DrawerRing$Tag", name := "equals", desc := "(Ljava/lang/Object;)Z" } : Jvm.MethodName)) ∈ lw_all := lw_g (lw_at lw_m4 53 rfl) rfl
theorem q845 : (Jvm.Cond.instanceMethod ({ cls := "DrawerRing$Tag", name := "equals", desc := "(Ljava/lang/Object;)Z" } : Jvm.MethodName)) ∈ lw_all := lw_g (lw_at lw_m4 54 rfl) rfl
theorem q846 : (Jvm.Cond.code ({ cls := "DrawerRing$Tag", name := "equals", desc := "(Ljava/lang/Object;)Z" } : Jvm.MethodName) prog_6_method_2_code (2 : Nat) (Option.some Jvm.ClassFile.FieldType.boolean)) ∈ lw_all := lw_g (lw_at lw_m4 55 rfl) rfl
theorem q847 : (Jvm.Cond.classLink "DrawerRing$Tag" (8 : Nat) "DrawerRing$Tag") ∈ lw_all := lw_g (lw_at lw_m4 56 rfl) rfl
theorem q891 : (Jvm.Cond.selects "DrawerRing$Tag" ({ cls := "java/lang/Object", name := "getClass", desc := "()Ljava/lang/Class;" } : Jvm.MethodName) ({ cls := "java/lang/Object", name := "getClass", desc := "()Ljava/lang/Class;" } : Jvm.MethodName)) ∈ lw_all := lw_g (lw_at lw_m4 100 rfl) rfl
theorem q2093 : (Jvm.Cond.castable "DrawerRing$Tag" "java/lang/Object") ∈ lw_tbl := lw_at lw_m9 102 rfl
theorem in_X5 : ∀ w ∈ wsX50, w ∈ lw_all := lw_in wsX50 [739] (by decide +kernel) (by decide +kernel)

/-! DrawerRing$Reader -/
set_option maxRecDepth 100000
def RX6 : String := "DrawerRing$Reader"
def TX6 : u_T := fun k => match k with
  | 0 => ("DrawerRing$Reader", "batch", "LDrawerRing$Batch;", true)
  | 1 => ("DrawerRing$Reader", "place", "I", false)
  | _ => ("DrawerRing$Reader", "this$0", "LDrawerRing;", true)
def tyX6 : Nat → FieldType := fun k => match k with
  | 0 => .object "DrawerRing$Batch"
  | 1 => .int
  | _ => .object "DrawerRing"
abbrev wsX60 : List Cond := u_ws RX6 TX6 3
theorem nmX6 : ∀ a, a < 3 → ∀ b, b < 3 → a ≠ b → (TX6 a).2.1 ≠ (TX6 b).2.1 := by decide +kernel
theorem tyX6_ok : ∀ k, k < 3 → parseFieldDescriptor (TX6 k).2.2.1 = some (tyX6 k) := by decide +kernel
abbrev cX6_init : ByteArray := prog_4_method_1_code
def yX6_init : MethodName := ⟨RX6, "<init>", "(LDrawerRing;)V"⟩
def dkwX6_init_0 : List UInt8 := [42, 43, 181, 0, 3, 42, 183, 0, 9, 42, 187, 0, 15, 89, 183, 0, 17, 181, 0, 18, 177]
abbrev dktX6_init_0 : List UInt8 := dkwX6_init_0 ++ []
theorem dksX6_init_0 : cX6_init.data.toList.drop 0 = dktX6_init_0 := by decide +kernel
theorem dX6_init_0 : decode cX6_init 0 = .ok (.aload_n 0, 1) := dk_42 (dk_at dksX6_init_0 0 rfl rfl)
theorem dX6_init_1 : decode cX6_init 1 = .ok (.aload_n 1, 1) := dk_43 (dk_at dksX6_init_0 1 rfl rfl)
theorem dX6_init_2 : decode cX6_init 2 = .ok (.putfield 3, 3) := dk_181 0 3 (dk_at dksX6_init_0 2 rfl rfl)
theorem dX6_init_5 : decode cX6_init 5 = .ok (.aload_n 0, 1) := dk_42 (dk_at dksX6_init_0 5 rfl rfl)
theorem dX6_init_6 : decode cX6_init 6 = .ok (.invokespecial 9, 3) := dk_183 0 9 (dk_at dksX6_init_0 6 rfl rfl)
theorem dX6_init_9 : decode cX6_init 9 = .ok (.aload_n 0, 1) := dk_42 (dk_at dksX6_init_0 9 rfl rfl)
theorem dX6_init_10 : decode cX6_init 10 = .ok (.new 15, 3) := dk_187 0 15 (dk_at dksX6_init_0 10 rfl rfl)
theorem dX6_init_13 : decode cX6_init 13 = .ok (.dup, 1) := dk_89 (dk_at dksX6_init_0 13 rfl rfl)
theorem dX6_init_14 : decode cX6_init 14 = .ok (.invokespecial 17, 3) := dk_183 0 17 (dk_at dksX6_init_0 14 rfl rfl)
theorem dX6_init_17 : decode cX6_init 17 = .ok (.putfield 18, 3) := dk_181 0 18 (dk_at dksX6_init_0 17 rfl rfl)
theorem dX6_init_20 : decode cX6_init 20 = .ok (.return_, 1) := dk_177 (dk_at dksX6_init_0 20 rfl rfl)
abbrev cX6_isBatch : ByteArray := prog_4_method_5_code
def yX6_isBatch : MethodName := ⟨RX6, "isBatch", "()Z"⟩
def dkwX6_isBatch_3 : List UInt8 := [4, 167, 0, 4, 3, 172]
abbrev dktX6_isBatch_3 : List UInt8 := dkwX6_isBatch_3 ++ []
def dkwX6_isBatch_2 : List UInt8 := [167, 255, 216, 27, 153, 0, 24, 42, 180, 0, 22, 42, 180, 0, 3, 180, 0, 26, 182, 0, 30, 160, 0, 7]
abbrev dktX6_isBatch_2 : List UInt8 := dkwX6_isBatch_2 ++ dktX6_isBatch_3
def dkwX6_isBatch_1 : List UInt8 := [180, 0, 64, 16, 6, 162, 0, 21, 42, 89, 180, 0, 22, 4, 96, 181, 0, 22, 42, 182, 0, 67, 60]
abbrev dktX6_isBatch_1 : List UInt8 := dkwX6_isBatch_1 ++ dktX6_isBatch_2
def dkwX6_isBatch_0 : List UInt8 := [42, 182, 0, 67, 60, 27, 153, 0, 42, 42, 182, 0, 40, 16, 44, 160, 0, 33, 42, 180, 0, 18]
abbrev dktX6_isBatch_0 : List UInt8 := dkwX6_isBatch_0 ++ dktX6_isBatch_1
theorem dksX6_isBatch_0 : cX6_isBatch.data.toList.drop 0 = dktX6_isBatch_0 := by decide +kernel
theorem dksX6_isBatch_1 : cX6_isBatch.data.toList.drop 22 = dktX6_isBatch_1 := dk_seg dksX6_isBatch_0 22 rfl rfl
theorem dksX6_isBatch_2 : cX6_isBatch.data.toList.drop 45 = dktX6_isBatch_2 := dk_seg dksX6_isBatch_1 23 rfl rfl
theorem dksX6_isBatch_3 : cX6_isBatch.data.toList.drop 69 = dktX6_isBatch_3 := dk_seg dksX6_isBatch_2 24 rfl rfl
theorem dX6_isBatch_0 : decode cX6_isBatch 0 = .ok (.aload_n 0, 1) := dk_42 (dk_at dksX6_isBatch_0 0 rfl rfl)
theorem dX6_isBatch_1 : decode cX6_isBatch 1 = .ok (.invokevirtual 67, 3) := dk_182 0 67 (dk_at dksX6_isBatch_0 1 rfl rfl)
theorem dX6_isBatch_4 : decode cX6_isBatch 4 = .ok (.istore_n 1, 1) := dk_60 (dk_at dksX6_isBatch_0 4 rfl rfl)
theorem dX6_isBatch_5 : decode cX6_isBatch 5 = .ok (.iload_n 1, 1) := dk_27 (dk_at dksX6_isBatch_0 5 rfl rfl)
theorem dX6_isBatch_6 : decode cX6_isBatch 6 = .ok (.ifCond .eq 42, 3) := dk_153 0 42 (dk_at dksX6_isBatch_0 6 rfl rfl)
theorem dX6_isBatch_9 : decode cX6_isBatch 9 = .ok (.aload_n 0, 1) := dk_42 (dk_at dksX6_isBatch_0 9 rfl rfl)
theorem dX6_isBatch_10 : decode cX6_isBatch 10 = .ok (.invokevirtual 40, 3) := dk_182 0 40 (dk_at dksX6_isBatch_0 10 rfl rfl)
theorem dX6_isBatch_13 : decode cX6_isBatch 13 = .ok (.bipush 44, 2) := dk_16 44 (dk_at dksX6_isBatch_0 13 rfl rfl)
theorem dX6_isBatch_15 : decode cX6_isBatch 15 = .ok (.if_icmp .ne 33, 3) := dk_160 0 33 (dk_at dksX6_isBatch_0 15 rfl rfl)
theorem dX6_isBatch_18 : decode cX6_isBatch 18 = .ok (.aload_n 0, 1) := dk_42 (dk_at dksX6_isBatch_0 18 rfl rfl)
theorem dX6_isBatch_19 : decode cX6_isBatch 19 = .ok (.getfield 18, 3) := dk_180 0 18 (dk_at dksX6_isBatch_0 19 rfl rfl)
theorem dX6_isBatch_22 : decode cX6_isBatch 22 = .ok (.getfield 64, 3) := dk_180 0 64 (dk_at dksX6_isBatch_1 0 rfl rfl)
theorem dX6_isBatch_25 : decode cX6_isBatch 25 = .ok (.bipush 6, 2) := dk_16 6 (dk_at dksX6_isBatch_1 3 rfl rfl)
theorem dX6_isBatch_27 : decode cX6_isBatch 27 = .ok (.if_icmp .ge 21, 3) := dk_162 0 21 (dk_at dksX6_isBatch_1 5 rfl rfl)
theorem dX6_isBatch_30 : decode cX6_isBatch 30 = .ok (.aload_n 0, 1) := dk_42 (dk_at dksX6_isBatch_1 8 rfl rfl)
theorem dX6_isBatch_31 : decode cX6_isBatch 31 = .ok (.dup, 1) := dk_89 (dk_at dksX6_isBatch_1 9 rfl rfl)
theorem dX6_isBatch_32 : decode cX6_isBatch 32 = .ok (.getfield 22, 3) := dk_180 0 22 (dk_at dksX6_isBatch_1 10 rfl rfl)
theorem dX6_isBatch_35 : decode cX6_isBatch 35 = .ok (.iconst 1, 1) := dk_4 (dk_at dksX6_isBatch_1 13 rfl rfl)
theorem dX6_isBatch_36 : decode cX6_isBatch 36 = .ok (.iadd, 1) := dk_96 (dk_at dksX6_isBatch_1 14 rfl rfl)
theorem dX6_isBatch_37 : decode cX6_isBatch 37 = .ok (.putfield 22, 3) := dk_181 0 22 (dk_at dksX6_isBatch_1 15 rfl rfl)
theorem dX6_isBatch_40 : decode cX6_isBatch 40 = .ok (.aload_n 0, 1) := dk_42 (dk_at dksX6_isBatch_1 18 rfl rfl)
theorem dX6_isBatch_41 : decode cX6_isBatch 41 = .ok (.invokevirtual 67, 3) := dk_182 0 67 (dk_at dksX6_isBatch_1 19 rfl rfl)
theorem dX6_isBatch_44 : decode cX6_isBatch 44 = .ok (.istore_n 1, 1) := dk_60 (dk_at dksX6_isBatch_1 22 rfl rfl)
theorem dX6_isBatch_45 : decode cX6_isBatch 45 = .ok (.goto (-40), 3) := dk_167 255 216 (dk_at dksX6_isBatch_2 0 rfl rfl)
theorem dX6_isBatch_48 : decode cX6_isBatch 48 = .ok (.iload_n 1, 1) := dk_27 (dk_at dksX6_isBatch_2 3 rfl rfl)
theorem dX6_isBatch_49 : decode cX6_isBatch 49 = .ok (.ifCond .eq 24, 3) := dk_153 0 24 (dk_at dksX6_isBatch_2 4 rfl rfl)
theorem dX6_isBatch_52 : decode cX6_isBatch 52 = .ok (.aload_n 0, 1) := dk_42 (dk_at dksX6_isBatch_2 7 rfl rfl)
theorem dX6_isBatch_53 : decode cX6_isBatch 53 = .ok (.getfield 22, 3) := dk_180 0 22 (dk_at dksX6_isBatch_2 8 rfl rfl)
theorem dX6_isBatch_56 : decode cX6_isBatch 56 = .ok (.aload_n 0, 1) := dk_42 (dk_at dksX6_isBatch_2 11 rfl rfl)
theorem dX6_isBatch_57 : decode cX6_isBatch 57 = .ok (.getfield 3, 3) := dk_180 0 3 (dk_at dksX6_isBatch_2 12 rfl rfl)
theorem dX6_isBatch_60 : decode cX6_isBatch 60 = .ok (.getfield 26, 3) := dk_180 0 26 (dk_at dksX6_isBatch_2 15 rfl rfl)
theorem dX6_isBatch_63 : decode cX6_isBatch 63 = .ok (.invokevirtual 30, 3) := dk_182 0 30 (dk_at dksX6_isBatch_2 18 rfl rfl)
theorem dX6_isBatch_66 : decode cX6_isBatch 66 = .ok (.if_icmp .ne 7, 3) := dk_160 0 7 (dk_at dksX6_isBatch_2 21 rfl rfl)
theorem dX6_isBatch_69 : decode cX6_isBatch 69 = .ok (.iconst 1, 1) := dk_4 (dk_at dksX6_isBatch_3 0 rfl rfl)
theorem dX6_isBatch_70 : decode cX6_isBatch 70 = .ok (.goto 4, 3) := dk_167 0 4 (dk_at dksX6_isBatch_3 1 rfl rfl)
theorem dX6_isBatch_73 : decode cX6_isBatch 73 = .ok (.iconst 0, 1) := dk_3 (dk_at dksX6_isBatch_3 4 rfl rfl)
theorem dX6_isBatch_74 : decode cX6_isBatch 74 = .ok (.ireturn, 1) := dk_172 (dk_at dksX6_isBatch_3 5 rfl rfl)
abbrev cX6_number : ByteArray := prog_4_method_4_code
def yX6_number : MethodName := ⟨RX6, "number", "()Z"⟩
def dkwX6_number_7 : List UInt8 := [180, 0, 64, 4, 96, 181, 0, 64, 29, 172]
abbrev dktX6_number_7 : List UInt8 := dkwX6_number_7 ++ []
def dkwX6_number_6 : List UInt8 := [153, 0, 32, 42, 180, 0, 18, 180, 0, 60, 42, 180, 0, 18, 180, 0, 64, 27, 79, 42, 180, 0, 18, 89]
abbrev dktX6_number_6 : List UInt8 := dkwX6_number_6 ++ dktX6_number_7
def dkwX6_number_5 : List UInt8 := [2, 159, 0, 18, 42, 180, 0, 18, 27, 182, 0, 53, 154, 0, 7, 4, 167, 0, 4, 3, 62, 29]
abbrev dktX6_number_5 : List UInt8 := dkwX6_number_5 ++ dktX6_number_6
def dkwX6_number_4 : List UInt8 := [180, 0, 22, 28, 153, 0, 7, 4, 167, 0, 4, 3, 96, 181, 0, 22, 167, 255, 150, 28, 153, 0, 23, 27]
abbrev dktX6_number_4 : List UInt8 := dkwX6_number_4 ++ dktX6_number_5
def dkwX6_number_3 : List UInt8 := [182, 0, 57, 153, 0, 7, 4, 167, 0, 4, 3, 61, 28, 153, 0, 7, 29, 167, 0, 4, 27, 60, 42, 89]
abbrev dktX6_number_3 : List UInt8 := dkwX6_number_3 ++ dktX6_number_4
def dkwX6_number_2 : List UInt8 := [104, 42, 182, 0, 40, 96, 16, 48, 100, 62, 42, 180, 0, 18, 29, 182, 0, 53, 153, 0, 11, 42, 29]
abbrev dktX6_number_2 : List UInt8 := dkwX6_number_2 ++ dktX6_number_3
def dkwX6_number_1 : List UInt8 := [153, 0, 90, 16, 10, 3, 27, 184, 0, 47, 104, 17, 3, 232, 162, 0, 76, 16, 10, 3, 27, 184, 0, 47]
abbrev dktX6_number_1 : List UInt8 := dkwX6_number_1 ++ dktX6_number_2
def dkwX6_number_0 : List UInt8 := [2, 60, 4, 61, 28, 153, 0, 108, 42, 182, 0, 40, 16, 48, 16, 57, 184, 0, 43, 153, 0, 94, 27]
abbrev dktX6_number_0 : List UInt8 := dkwX6_number_0 ++ dktX6_number_1
theorem dksX6_number_0 : cX6_number.data.toList.drop 0 = dktX6_number_0 := by decide +kernel
theorem dksX6_number_1 : cX6_number.data.toList.drop 23 = dktX6_number_1 := dk_seg dksX6_number_0 23 rfl rfl
theorem dksX6_number_2 : cX6_number.data.toList.drop 47 = dktX6_number_2 := dk_seg dksX6_number_1 24 rfl rfl
theorem dksX6_number_3 : cX6_number.data.toList.drop 70 = dktX6_number_3 := dk_seg dksX6_number_2 23 rfl rfl
theorem dksX6_number_4 : cX6_number.data.toList.drop 94 = dktX6_number_4 := dk_seg dksX6_number_3 24 rfl rfl
theorem dksX6_number_5 : cX6_number.data.toList.drop 118 = dktX6_number_5 := dk_seg dksX6_number_4 24 rfl rfl
theorem dksX6_number_6 : cX6_number.data.toList.drop 140 = dktX6_number_6 := dk_seg dksX6_number_5 22 rfl rfl
theorem dksX6_number_7 : cX6_number.data.toList.drop 164 = dktX6_number_7 := dk_seg dksX6_number_6 24 rfl rfl
theorem dX6_number_0 : decode cX6_number 0 = .ok (.iconst (-1), 1) := dk_2 (dk_at dksX6_number_0 0 rfl rfl)
theorem dX6_number_1 : decode cX6_number 1 = .ok (.istore_n 1, 1) := dk_60 (dk_at dksX6_number_0 1 rfl rfl)
theorem dX6_number_2 : decode cX6_number 2 = .ok (.iconst 1, 1) := dk_4 (dk_at dksX6_number_0 2 rfl rfl)
theorem dX6_number_3 : decode cX6_number 3 = .ok (.istore_n 2, 1) := dk_61 (dk_at dksX6_number_0 3 rfl rfl)
theorem dX6_number_4 : decode cX6_number 4 = .ok (.iload_n 2, 1) := dk_28 (dk_at dksX6_number_0 4 rfl rfl)
theorem dX6_number_5 : decode cX6_number 5 = .ok (.ifCond .eq 108, 3) := dk_153 0 108 (dk_at dksX6_number_0 5 rfl rfl)
theorem dX6_number_8 : decode cX6_number 8 = .ok (.aload_n 0, 1) := dk_42 (dk_at dksX6_number_0 8 rfl rfl)
theorem dX6_number_9 : decode cX6_number 9 = .ok (.invokevirtual 40, 3) := dk_182 0 40 (dk_at dksX6_number_0 9 rfl rfl)
theorem dX6_number_12 : decode cX6_number 12 = .ok (.bipush 48, 2) := dk_16 48 (dk_at dksX6_number_0 12 rfl rfl)
theorem dX6_number_14 : decode cX6_number 14 = .ok (.bipush 57, 2) := dk_16 57 (dk_at dksX6_number_0 14 rfl rfl)
theorem dX6_number_16 : decode cX6_number 16 = .ok (.invokestatic 43, 3) := dk_184 0 43 (dk_at dksX6_number_0 16 rfl rfl)
theorem dX6_number_19 : decode cX6_number 19 = .ok (.ifCond .eq 94, 3) := dk_153 0 94 (dk_at dksX6_number_0 19 rfl rfl)
theorem dX6_number_22 : decode cX6_number 22 = .ok (.iload_n 1, 1) := dk_27 (dk_at dksX6_number_0 22 rfl rfl)
theorem dX6_number_23 : decode cX6_number 23 = .ok (.ifCond .eq 90, 3) := dk_153 0 90 (dk_at dksX6_number_1 0 rfl rfl)
theorem dX6_number_26 : decode cX6_number 26 = .ok (.bipush 10, 2) := dk_16 10 (dk_at dksX6_number_1 3 rfl rfl)
theorem dX6_number_28 : decode cX6_number 28 = .ok (.iconst 0, 1) := dk_3 (dk_at dksX6_number_1 5 rfl rfl)
theorem dX6_number_29 : decode cX6_number 29 = .ok (.iload_n 1, 1) := dk_27 (dk_at dksX6_number_1 6 rfl rfl)
theorem dX6_number_30 : decode cX6_number 30 = .ok (.invokestatic 47, 3) := dk_184 0 47 (dk_at dksX6_number_1 7 rfl rfl)
theorem dX6_number_33 : decode cX6_number 33 = .ok (.imul, 1) := dk_104 (dk_at dksX6_number_1 10 rfl rfl)
theorem dX6_number_34 : decode cX6_number 34 = .ok (.sipush 1000, 3) := dk_17 3 232 (dk_at dksX6_number_1 11 rfl rfl)
theorem dX6_number_37 : decode cX6_number 37 = .ok (.if_icmp .ge 76, 3) := dk_162 0 76 (dk_at dksX6_number_1 14 rfl rfl)
theorem dX6_number_40 : decode cX6_number 40 = .ok (.bipush 10, 2) := dk_16 10 (dk_at dksX6_number_1 17 rfl rfl)
theorem dX6_number_42 : decode cX6_number 42 = .ok (.iconst 0, 1) := dk_3 (dk_at dksX6_number_1 19 rfl rfl)
theorem dX6_number_43 : decode cX6_number 43 = .ok (.iload_n 1, 1) := dk_27 (dk_at dksX6_number_1 20 rfl rfl)
theorem dX6_number_44 : decode cX6_number 44 = .ok (.invokestatic 47, 3) := dk_184 0 47 (dk_at dksX6_number_1 21 rfl rfl)
theorem dX6_number_47 : decode cX6_number 47 = .ok (.imul, 1) := dk_104 (dk_at dksX6_number_2 0 rfl rfl)
theorem dX6_number_48 : decode cX6_number 48 = .ok (.aload_n 0, 1) := dk_42 (dk_at dksX6_number_2 1 rfl rfl)
theorem dX6_number_49 : decode cX6_number 49 = .ok (.invokevirtual 40, 3) := dk_182 0 40 (dk_at dksX6_number_2 2 rfl rfl)
theorem dX6_number_52 : decode cX6_number 52 = .ok (.iadd, 1) := dk_96 (dk_at dksX6_number_2 5 rfl rfl)
theorem dX6_number_53 : decode cX6_number 53 = .ok (.bipush 48, 2) := dk_16 48 (dk_at dksX6_number_2 6 rfl rfl)
theorem dX6_number_55 : decode cX6_number 55 = .ok (.isub, 1) := dk_100 (dk_at dksX6_number_2 8 rfl rfl)
theorem dX6_number_56 : decode cX6_number 56 = .ok (.istore_n 3, 1) := dk_62 (dk_at dksX6_number_2 9 rfl rfl)
theorem dX6_number_57 : decode cX6_number 57 = .ok (.aload_n 0, 1) := dk_42 (dk_at dksX6_number_2 10 rfl rfl)
theorem dX6_number_58 : decode cX6_number 58 = .ok (.getfield 18, 3) := dk_180 0 18 (dk_at dksX6_number_2 11 rfl rfl)
theorem dX6_number_61 : decode cX6_number 61 = .ok (.iload_n 3, 1) := dk_29 (dk_at dksX6_number_2 14 rfl rfl)
theorem dX6_number_62 : decode cX6_number 62 = .ok (.invokevirtual 53, 3) := dk_182 0 53 (dk_at dksX6_number_2 15 rfl rfl)
theorem dX6_number_65 : decode cX6_number 65 = .ok (.ifCond .eq 11, 3) := dk_153 0 11 (dk_at dksX6_number_2 18 rfl rfl)
theorem dX6_number_68 : decode cX6_number 68 = .ok (.aload_n 0, 1) := dk_42 (dk_at dksX6_number_2 21 rfl rfl)
theorem dX6_number_69 : decode cX6_number 69 = .ok (.iload_n 3, 1) := dk_29 (dk_at dksX6_number_2 22 rfl rfl)
theorem dX6_number_70 : decode cX6_number 70 = .ok (.invokevirtual 57, 3) := dk_182 0 57 (dk_at dksX6_number_3 0 rfl rfl)
theorem dX6_number_73 : decode cX6_number 73 = .ok (.ifCond .eq 7, 3) := dk_153 0 7 (dk_at dksX6_number_3 3 rfl rfl)
theorem dX6_number_76 : decode cX6_number 76 = .ok (.iconst 1, 1) := dk_4 (dk_at dksX6_number_3 6 rfl rfl)
theorem dX6_number_77 : decode cX6_number 77 = .ok (.goto 4, 3) := dk_167 0 4 (dk_at dksX6_number_3 7 rfl rfl)
theorem dX6_number_80 : decode cX6_number 80 = .ok (.iconst 0, 1) := dk_3 (dk_at dksX6_number_3 10 rfl rfl)
theorem dX6_number_81 : decode cX6_number 81 = .ok (.istore_n 2, 1) := dk_61 (dk_at dksX6_number_3 11 rfl rfl)
theorem dX6_number_82 : decode cX6_number 82 = .ok (.iload_n 2, 1) := dk_28 (dk_at dksX6_number_3 12 rfl rfl)
theorem dX6_number_83 : decode cX6_number 83 = .ok (.ifCond .eq 7, 3) := dk_153 0 7 (dk_at dksX6_number_3 13 rfl rfl)
theorem dX6_number_86 : decode cX6_number 86 = .ok (.iload_n 3, 1) := dk_29 (dk_at dksX6_number_3 16 rfl rfl)
theorem dX6_number_87 : decode cX6_number 87 = .ok (.goto 4, 3) := dk_167 0 4 (dk_at dksX6_number_3 17 rfl rfl)
theorem dX6_number_90 : decode cX6_number 90 = .ok (.iload_n 1, 1) := dk_27 (dk_at dksX6_number_3 20 rfl rfl)
theorem dX6_number_91 : decode cX6_number 91 = .ok (.istore_n 1, 1) := dk_60 (dk_at dksX6_number_3 21 rfl rfl)
theorem dX6_number_92 : decode cX6_number 92 = .ok (.aload_n 0, 1) := dk_42 (dk_at dksX6_number_3 22 rfl rfl)
theorem dX6_number_93 : decode cX6_number 93 = .ok (.dup, 1) := dk_89 (dk_at dksX6_number_3 23 rfl rfl)
theorem dX6_number_94 : decode cX6_number 94 = .ok (.getfield 22, 3) := dk_180 0 22 (dk_at dksX6_number_4 0 rfl rfl)
theorem dX6_number_97 : decode cX6_number 97 = .ok (.iload_n 2, 1) := dk_28 (dk_at dksX6_number_4 3 rfl rfl)
theorem dX6_number_98 : decode cX6_number 98 = .ok (.ifCond .eq 7, 3) := dk_153 0 7 (dk_at dksX6_number_4 4 rfl rfl)
theorem dX6_number_101 : decode cX6_number 101 = .ok (.iconst 1, 1) := dk_4 (dk_at dksX6_number_4 7 rfl rfl)
theorem dX6_number_102 : decode cX6_number 102 = .ok (.goto 4, 3) := dk_167 0 4 (dk_at dksX6_number_4 8 rfl rfl)
theorem dX6_number_105 : decode cX6_number 105 = .ok (.iconst 0, 1) := dk_3 (dk_at dksX6_number_4 11 rfl rfl)
theorem dX6_number_106 : decode cX6_number 106 = .ok (.iadd, 1) := dk_96 (dk_at dksX6_number_4 12 rfl rfl)
theorem dX6_number_107 : decode cX6_number 107 = .ok (.putfield 22, 3) := dk_181 0 22 (dk_at dksX6_number_4 13 rfl rfl)
theorem dX6_number_110 : decode cX6_number 110 = .ok (.goto (-106), 3) := dk_167 255 150 (dk_at dksX6_number_4 16 rfl rfl)
theorem dX6_number_113 : decode cX6_number 113 = .ok (.iload_n 2, 1) := dk_28 (dk_at dksX6_number_4 19 rfl rfl)
theorem dX6_number_114 : decode cX6_number 114 = .ok (.ifCond .eq 23, 3) := dk_153 0 23 (dk_at dksX6_number_4 20 rfl rfl)
theorem dX6_number_117 : decode cX6_number 117 = .ok (.iload_n 1, 1) := dk_27 (dk_at dksX6_number_4 23 rfl rfl)
theorem dX6_number_118 : decode cX6_number 118 = .ok (.iconst (-1), 1) := dk_2 (dk_at dksX6_number_5 0 rfl rfl)
theorem dX6_number_119 : decode cX6_number 119 = .ok (.if_icmp .eq 18, 3) := dk_159 0 18 (dk_at dksX6_number_5 1 rfl rfl)
theorem dX6_number_122 : decode cX6_number 122 = .ok (.aload_n 0, 1) := dk_42 (dk_at dksX6_number_5 4 rfl rfl)
theorem dX6_number_123 : decode cX6_number 123 = .ok (.getfield 18, 3) := dk_180 0 18 (dk_at dksX6_number_5 5 rfl rfl)
theorem dX6_number_126 : decode cX6_number 126 = .ok (.iload_n 1, 1) := dk_27 (dk_at dksX6_number_5 8 rfl rfl)
theorem dX6_number_127 : decode cX6_number 127 = .ok (.invokevirtual 53, 3) := dk_182 0 53 (dk_at dksX6_number_5 9 rfl rfl)
theorem dX6_number_130 : decode cX6_number 130 = .ok (.ifCond .ne 7, 3) := dk_154 0 7 (dk_at dksX6_number_5 12 rfl rfl)
theorem dX6_number_133 : decode cX6_number 133 = .ok (.iconst 1, 1) := dk_4 (dk_at dksX6_number_5 15 rfl rfl)
theorem dX6_number_134 : decode cX6_number 134 = .ok (.goto 4, 3) := dk_167 0 4 (dk_at dksX6_number_5 16 rfl rfl)
theorem dX6_number_137 : decode cX6_number 137 = .ok (.iconst 0, 1) := dk_3 (dk_at dksX6_number_5 19 rfl rfl)
theorem dX6_number_138 : decode cX6_number 138 = .ok (.istore_n 3, 1) := dk_62 (dk_at dksX6_number_5 20 rfl rfl)
theorem dX6_number_139 : decode cX6_number 139 = .ok (.iload_n 3, 1) := dk_29 (dk_at dksX6_number_5 21 rfl rfl)
theorem dX6_number_140 : decode cX6_number 140 = .ok (.ifCond .eq 32, 3) := dk_153 0 32 (dk_at dksX6_number_6 0 rfl rfl)
theorem dX6_number_143 : decode cX6_number 143 = .ok (.aload_n 0, 1) := dk_42 (dk_at dksX6_number_6 3 rfl rfl)
theorem dX6_number_144 : decode cX6_number 144 = .ok (.getfield 18, 3) := dk_180 0 18 (dk_at dksX6_number_6 4 rfl rfl)
theorem dX6_number_147 : decode cX6_number 147 = .ok (.getfield 60, 3) := dk_180 0 60 (dk_at dksX6_number_6 7 rfl rfl)
theorem dX6_number_150 : decode cX6_number 150 = .ok (.aload_n 0, 1) := dk_42 (dk_at dksX6_number_6 10 rfl rfl)
theorem dX6_number_151 : decode cX6_number 151 = .ok (.getfield 18, 3) := dk_180 0 18 (dk_at dksX6_number_6 11 rfl rfl)
theorem dX6_number_154 : decode cX6_number 154 = .ok (.getfield 64, 3) := dk_180 0 64 (dk_at dksX6_number_6 14 rfl rfl)
theorem dX6_number_157 : decode cX6_number 157 = .ok (.iload_n 1, 1) := dk_27 (dk_at dksX6_number_6 17 rfl rfl)
theorem dX6_number_158 : decode cX6_number 158 = .ok (.iastore, 1) := dk_79 (dk_at dksX6_number_6 18 rfl rfl)
theorem dX6_number_159 : decode cX6_number 159 = .ok (.aload_n 0, 1) := dk_42 (dk_at dksX6_number_6 19 rfl rfl)
theorem dX6_number_160 : decode cX6_number 160 = .ok (.getfield 18, 3) := dk_180 0 18 (dk_at dksX6_number_6 20 rfl rfl)
theorem dX6_number_163 : decode cX6_number 163 = .ok (.dup, 1) := dk_89 (dk_at dksX6_number_6 23 rfl rfl)
theorem dX6_number_164 : decode cX6_number 164 = .ok (.getfield 64, 3) := dk_180 0 64 (dk_at dksX6_number_7 0 rfl rfl)
theorem dX6_number_167 : decode cX6_number 167 = .ok (.iconst 1, 1) := dk_4 (dk_at dksX6_number_7 3 rfl rfl)
theorem dX6_number_168 : decode cX6_number 168 = .ok (.iadd, 1) := dk_96 (dk_at dksX6_number_7 4 rfl rfl)
theorem dX6_number_169 : decode cX6_number 169 = .ok (.putfield 64, 3) := dk_181 0 64 (dk_at dksX6_number_7 5 rfl rfl)
theorem dX6_number_172 : decode cX6_number 172 = .ok (.iload_n 3, 1) := dk_29 (dk_at dksX6_number_7 8 rfl rfl)
theorem dX6_number_173 : decode cX6_number 173 = .ok (.ireturn, 1) := dk_172 (dk_at dksX6_number_7 9 rfl rfl)
abbrev cX6_next : ByteArray := prog_4_method_2_code
def yX6_next : MethodName := ⟨RX6, "next", "()I"⟩
def dkwX6_next_1 : List UInt8 := [42, 180, 0, 22, 182, 0, 36, 167, 0, 4, 3, 172]
abbrev dktX6_next_1 : List UInt8 := dkwX6_next_1 ++ []
def dkwX6_next_0 : List UInt8 := [42, 180, 0, 22, 42, 180, 0, 3, 180, 0, 26, 182, 0, 30, 162, 0, 20, 42, 180, 0, 3, 180, 0, 26]
abbrev dktX6_next_0 : List UInt8 := dkwX6_next_0 ++ dktX6_next_1
theorem dksX6_next_0 : cX6_next.data.toList.drop 0 = dktX6_next_0 := by decide +kernel
theorem dksX6_next_1 : cX6_next.data.toList.drop 24 = dktX6_next_1 := dk_seg dksX6_next_0 24 rfl rfl
theorem dX6_next_0 : decode cX6_next 0 = .ok (.aload_n 0, 1) := dk_42 (dk_at dksX6_next_0 0 rfl rfl)
theorem dX6_next_1 : decode cX6_next 1 = .ok (.getfield 22, 3) := dk_180 0 22 (dk_at dksX6_next_0 1 rfl rfl)
theorem dX6_next_4 : decode cX6_next 4 = .ok (.aload_n 0, 1) := dk_42 (dk_at dksX6_next_0 4 rfl rfl)
theorem dX6_next_5 : decode cX6_next 5 = .ok (.getfield 3, 3) := dk_180 0 3 (dk_at dksX6_next_0 5 rfl rfl)
theorem dX6_next_8 : decode cX6_next 8 = .ok (.getfield 26, 3) := dk_180 0 26 (dk_at dksX6_next_0 8 rfl rfl)
theorem dX6_next_11 : decode cX6_next 11 = .ok (.invokevirtual 30, 3) := dk_182 0 30 (dk_at dksX6_next_0 11 rfl rfl)
theorem dX6_next_14 : decode cX6_next 14 = .ok (.if_icmp .ge 20, 3) := dk_162 0 20 (dk_at dksX6_next_0 14 rfl rfl)
theorem dX6_next_17 : decode cX6_next 17 = .ok (.aload_n 0, 1) := dk_42 (dk_at dksX6_next_0 17 rfl rfl)
theorem dX6_next_18 : decode cX6_next 18 = .ok (.getfield 3, 3) := dk_180 0 3 (dk_at dksX6_next_0 18 rfl rfl)
theorem dX6_next_21 : decode cX6_next 21 = .ok (.getfield 26, 3) := dk_180 0 26 (dk_at dksX6_next_0 21 rfl rfl)
theorem dX6_next_24 : decode cX6_next 24 = .ok (.aload_n 0, 1) := dk_42 (dk_at dksX6_next_1 0 rfl rfl)
theorem dX6_next_25 : decode cX6_next 25 = .ok (.getfield 22, 3) := dk_180 0 22 (dk_at dksX6_next_1 1 rfl rfl)
theorem dX6_next_28 : decode cX6_next 28 = .ok (.invokevirtual 36, 3) := dk_182 0 36 (dk_at dksX6_next_1 4 rfl rfl)
theorem dX6_next_31 : decode cX6_next 31 = .ok (.goto 4, 3) := dk_167 0 4 (dk_at dksX6_next_1 7 rfl rfl)
theorem dX6_next_34 : decode cX6_next 34 = .ok (.iconst 0, 1) := dk_3 (dk_at dksX6_next_1 10 rfl rfl)
theorem dX6_next_35 : decode cX6_next 35 = .ok (.ireturn, 1) := dk_172 (dk_at dksX6_next_1 11 rfl rfl)
abbrev cX6_canGoOn : ByteArray := prog_4_method_3_code
def yX6_canGoOn : MethodName := ⟨RX6, "canGoOn", "(I)Z"⟩
def dkwX6_canGoOn_0 : List UInt8 := [27, 158, 0, 17, 16, 10, 27, 104, 17, 3, 232, 162, 0, 7, 4, 167, 0, 4, 3, 172]
abbrev dktX6_canGoOn_0 : List UInt8 := dkwX6_canGoOn_0 ++ []
theorem dksX6_canGoOn_0 : cX6_canGoOn.data.toList.drop 0 = dktX6_canGoOn_0 := by decide +kernel
theorem dX6_canGoOn_0 : decode cX6_canGoOn 0 = .ok (.iload_n 1, 1) := dk_27 (dk_at dksX6_canGoOn_0 0 rfl rfl)
theorem dX6_canGoOn_1 : decode cX6_canGoOn 1 = .ok (.ifCond .le 17, 3) := dk_158 0 17 (dk_at dksX6_canGoOn_0 1 rfl rfl)
theorem dX6_canGoOn_4 : decode cX6_canGoOn 4 = .ok (.bipush 10, 2) := dk_16 10 (dk_at dksX6_canGoOn_0 4 rfl rfl)
theorem dX6_canGoOn_6 : decode cX6_canGoOn 6 = .ok (.iload_n 1, 1) := dk_27 (dk_at dksX6_canGoOn_0 6 rfl rfl)
theorem dX6_canGoOn_7 : decode cX6_canGoOn 7 = .ok (.imul, 1) := dk_104 (dk_at dksX6_canGoOn_0 7 rfl rfl)
theorem dX6_canGoOn_8 : decode cX6_canGoOn 8 = .ok (.sipush 1000, 3) := dk_17 3 232 (dk_at dksX6_canGoOn_0 8 rfl rfl)
theorem dX6_canGoOn_11 : decode cX6_canGoOn 11 = .ok (.if_icmp .ge 7, 3) := dk_162 0 7 (dk_at dksX6_canGoOn_0 11 rfl rfl)
theorem dX6_canGoOn_14 : decode cX6_canGoOn 14 = .ok (.iconst 1, 1) := dk_4 (dk_at dksX6_canGoOn_0 14 rfl rfl)
theorem dX6_canGoOn_15 : decode cX6_canGoOn 15 = .ok (.goto 4, 3) := dk_167 0 4 (dk_at dksX6_canGoOn_0 15 rfl rfl)
theorem dX6_canGoOn_18 : decode cX6_canGoOn 18 = .ok (.iconst 0, 1) := dk_3 (dk_at dksX6_canGoOn_0 18 rfl rfl)
theorem dX6_canGoOn_19 : decode cX6_canGoOn 19 = .ok (.ireturn, 1) := dk_172 (dk_at dksX6_canGoOn_0 19 rfl rfl)
theorem q109 : (Jvm.Cond.initialized "DrawerRing$Reader") ∈ lw_all := lw_g (lw_at lw_m1 38 rfl) rfl
theorem q270 : (Jvm.Cond.fieldLinkNest "DrawerRing$Reader" (26 : Nat) "DrawerRing" "text" "Ljava/lang/StringBuilder;" "DrawerRing") ∈ lw_tbl := lw_at lw_m1 199 rfl
theorem q641 : (Jvm.Cond.instantiable "DrawerRing$Reader" (3 : Nat)) ∈ lw_all := lw_g (lw_at lw_m3 90 rfl) rfl
theorem q643 : (Jvm.Cond.instanceMethod ({ cls := "DrawerRing$Reader", name := "<init>", desc := "(LDrawerRing;)V" } : Jvm.MethodName)) ∈ lw_all := lw_g (lw_at lw_m3 92 rfl) rfl
theorem q644 : (Jvm.Cond.code ({ cls := "DrawerRing$Reader", name := "<init>", desc := "(LDrawerRing;)V" } : Jvm.MethodName) prog_4_method_1_code (2 : Nat) (Option.none : Option Jvm.ClassFile.FieldType)) ∈ lw_all := lw_g (lw_at lw_m3 93 rfl) rfl
theorem q645 : (Jvm.Cond.methodLink "DrawerRing$Reader" (9 : Nat) ({ cls := "java/lang/Object", name := "<init>", desc := "()V" } : Jvm.MethodName)) ∈ lw_all := lw_g (lw_at lw_m3 94 rfl) rfl
theorem q646 : (Jvm.Cond.classLink "DrawerRing$Reader" (15 : Nat) "DrawerRing$Batch") ∈ lw_all := lw_g (lw_at lw_m3 95 rfl) rfl
theorem q648 : (Jvm.Cond.methodLinkNest "DrawerRing$Reader" (17 : Nat) ({ cls := "DrawerRing$Batch", name := "<init>", desc := "()V" } : Jvm.MethodName) "DrawerRing") ∈ lw_tbl := lw_at lw_m3 97 rfl
theorem q653 : (Jvm.Cond.fieldLinkNest "DrawerRing$Reader" (60 : Nat) "DrawerRing$Batch" "numbers" "[I" "DrawerRing") ∈ lw_tbl := lw_at lw_m3 102 rfl
theorem q657 : (Jvm.Cond.fieldLinkNest "DrawerRing$Reader" (64 : Nat) "DrawerRing$Batch" "many" "I" "DrawerRing") ∈ lw_tbl := lw_at lw_m3 106 rfl
theorem q667 : (Jvm.Cond.fieldLink "DrawerRing$Reader" (18 : Nat) "DrawerRing$Reader" "batch" "LDrawerRing$Batch;") ∈ lw_all := lw_g (lw_at lw_m3 116 rfl) rfl
theorem q669 : (Jvm.Cond.fieldLink "DrawerRing$Reader" (22 : Nat) "DrawerRing$Reader" "place" "I") ∈ lw_all := lw_g (lw_at lw_m3 118 rfl) rfl
theorem q671 : (Jvm.Cond.fieldLink "DrawerRing$Reader" (3 : Nat) "DrawerRing$Reader" "this$0" "LDrawerRing;") ∈ lw_all := lw_g (lw_at lw_m3 120 rfl) rfl
theorem q672 : (Jvm.Cond.laysFinal "DrawerRing$Reader" "DrawerRing$Reader" "batch" "LDrawerRing$Batch;") ∈ lw_all := lw_g (lw_at lw_m3 121 rfl) rfl
theorem q673 : (Jvm.Cond.soleField "DrawerRing$Reader" "batch") ∈ lw_all := lw_g (lw_at lw_m3 122 rfl) rfl
theorem q674 : (Jvm.Cond.lays "DrawerRing$Reader" "DrawerRing$Reader" "place" "I") ∈ lw_all := lw_g (lw_at lw_m3 123 rfl) rfl
theorem q675 : (Jvm.Cond.soleField "DrawerRing$Reader" "place") ∈ lw_all := lw_g (lw_at lw_m3 124 rfl) rfl
theorem q676 : (Jvm.Cond.laysFinal "DrawerRing$Reader" "DrawerRing$Reader" "this$0" "LDrawerRing;") ∈ lw_all := lw_g (lw_at lw_m3 125 rfl) rfl
theorem q677 : (Jvm.Cond.soleField "DrawerRing$Reader" "this$0") ∈ lw_all := lw_g (lw_at lw_m3 126 rfl) rfl
theorem q678 : (Jvm.Cond.superclass "DrawerRing$Reader" "java/lang/Object") ∈ lw_all := lw_g (lw_at lw_m3 127 rfl) rfl
theorem q680 : (Jvm.Cond.instanceMethod ({ cls := "DrawerRing$Reader", name := "isBatch", desc := "()Z" } : Jvm.MethodName)) ∈ lw_all := lw_g (lw_at lw_m3 129 rfl) rfl
theorem q681 : (Jvm.Cond.selects "DrawerRing$Reader" ({ cls := "DrawerRing$Reader", name := "isBatch", desc := "()Z" } : Jvm.MethodName) ({ cls := "DrawerRing$Reader", name := "isBatch", desc := "()Z" } : Jvm.MethodName)) ∈ lw_all := lw_g (lw_at lw_m3 130 rfl) rfl
theorem q682 : (Jvm.Cond.code ({ cls := "DrawerRing$Reader", name := "isBatch", desc := "()Z" } : Jvm.MethodName) prog_4_method_5_code (2 : Nat) (Option.some Jvm.ClassFile.FieldType.boolean)) ∈ lw_all := lw_g (lw_at lw_m3 131 rfl) rfl
theorem q683 : (Jvm.Cond.methodLink "DrawerRing$Reader" (67 : Nat) ({ cls := "DrawerRing$Reader", name := "number", desc := "()Z" } : Jvm.MethodName)) ∈ lw_all := lw_g (lw_at lw_m3 132 rfl) rfl
theorem q684 : (Jvm.Cond.privateMethod ({ cls := "DrawerRing$Reader", name := "number", desc := "()Z" } : Jvm.MethodName)) ∈ lw_tbl := lw_at lw_m3 133 rfl
theorem q685 : (Jvm.Cond.instanceMethod ({ cls := "DrawerRing$Reader", name := "number", desc := "()Z" } : Jvm.MethodName)) ∈ lw_all := lw_g (lw_at lw_m3 134 rfl) rfl
theorem q686 : (Jvm.Cond.code ({ cls := "DrawerRing$Reader", name := "number", desc := "()Z" } : Jvm.MethodName) prog_4_method_4_code (4 : Nat) (Option.some Jvm.ClassFile.FieldType.boolean)) ∈ lw_all := lw_g (lw_at lw_m3 135 rfl) rfl
theorem q687 : (Jvm.Cond.methodLink "DrawerRing$Reader" (40 : Nat) ({ cls := "DrawerRing$Reader", name := "next", desc := "()I" } : Jvm.MethodName)) ∈ lw_all := lw_g (lw_at lw_m3 136 rfl) rfl
theorem q688 : (Jvm.Cond.privateMethod ({ cls := "DrawerRing$Reader", name := "next", desc := "()I" } : Jvm.MethodName)) ∈ lw_tbl := lw_at lw_m3 137 rfl
theorem q689 : (Jvm.Cond.instanceMethod ({ cls := "DrawerRing$Reader", name := "next", desc := "()I" } : Jvm.MethodName)) ∈ lw_all := lw_g (lw_at lw_m3 138 rfl) rfl
theorem q690 : (Jvm.Cond.code ({ cls := "DrawerRing$Reader", name := "next", desc := "()I" } : Jvm.MethodName) prog_4_method_2_code (1 : Nat) (Option.some Jvm.ClassFile.FieldType.int)) ∈ lw_all := lw_g (lw_at lw_m3 139 rfl) rfl
theorem q691 : (Jvm.Cond.methodLink "DrawerRing$Reader" (30 : Nat) ({ cls := "java/lang/StringBuilder", name := "length", desc := "()I" } : Jvm.MethodName)) ∈ lw_all := lw_g (lw_at lw_m3 140 rfl) rfl
theorem q692 : (Jvm.Cond.methodLink "DrawerRing$Reader" (36 : Nat) ({ cls := "java/lang/StringBuilder", name := "charAt", desc := "(I)C" } : Jvm.MethodName)) ∈ lw_all := lw_g (lw_at lw_m3 141 rfl) rfl
theorem q707 : (Jvm.Cond.methodLinkNest "DrawerRing$Reader" (43 : Nat) ({ cls := "DrawerRing", name := "in", desc := "(III)Z" } : Jvm.MethodName) "DrawerRing") ∈ lw_tbl := lw_at lw_m3 156 rfl
theorem q710 : (Jvm.Cond.methodLink "DrawerRing$Reader" (47 : Nat) ({ cls := "java/lang/Math", name := "max", desc := "(II)I" } : Jvm.MethodName)) ∈ lw_all := lw_g (lw_at lw_m3 159 rfl) rfl
theorem q711 : (Jvm.Cond.methodLink "DrawerRing$Reader" (53 : Nat) ({ cls := "DrawerRing$Batch", name := "has", desc := "(I)Z" } : Jvm.MethodName)) ∈ lw_all := lw_g (lw_at lw_m3 160 rfl) rfl
theorem q715 : (Jvm.Cond.methodLink "DrawerRing$Reader" (57 : Nat) ({ cls := "DrawerRing$Reader", name := "canGoOn", desc := "(I)Z" } : Jvm.MethodName)) ∈ lw_all := lw_g (lw_at lw_m3 164 rfl) rfl
theorem q716 : (Jvm.Cond.privateMethod ({ cls := "DrawerRing$Reader", name := "canGoOn", desc := "(I)Z" } : Jvm.MethodName)) ∈ lw_tbl := lw_at lw_m3 165 rfl
theorem q717 : (Jvm.Cond.instanceMethod ({ cls := "DrawerRing$Reader", name := "canGoOn", desc := "(I)Z" } : Jvm.MethodName)) ∈ lw_all := lw_g (lw_at lw_m3 166 rfl) rfl
theorem q718 : (Jvm.Cond.code ({ cls := "DrawerRing$Reader", name := "canGoOn", desc := "(I)Z" } : Jvm.MethodName) prog_4_method_3_code (2 : Nat) (Option.some Jvm.ClassFile.FieldType.boolean)) ∈ lw_all := lw_g (lw_at lw_m3 167 rfl) rfl
theorem q760 : (Jvm.Cond.selects "DrawerRing$Reader" ({ cls := "java/lang/Object", name := "hashCode", desc := "()I" } : Jvm.MethodName) ({ cls := "java/lang/Object", name := "hashCode", desc := "()I" } : Jvm.MethodName)) ∈ lw_all := lw_g (lw_at lw_m3 209 rfl) rfl
theorem q842 : (Jvm.Cond.selects "DrawerRing$Reader" ({ cls := "java/lang/Object", name := "equals", desc := "(Ljava/lang/Object;)Z" } : Jvm.MethodName) ({ cls := "java/lang/Object", name := "equals", desc := "(Ljava/lang/Object;)Z" } : Jvm.MethodName)) ∈ lw_all := lw_g (lw_at lw_m4 51 rfl) rfl
theorem q889 : (Jvm.Cond.selects "DrawerRing$Reader" ({ cls := "java/lang/Object", name := "getClass", desc := "()Ljava/lang/Class;" } : Jvm.MethodName) ({ cls := "java/lang/Object", name := "getClass", desc := "()Ljava/lang/Class;" } : Jvm.MethodName)) ∈ lw_all := lw_g (lw_at lw_m4 98 rfl) rfl
theorem q2096 : (Jvm.Cond.castable "DrawerRing$Reader" "java/lang/Object") ∈ lw_tbl := lw_at lw_m9 105 rfl
theorem in_X6 : ∀ w ∈ wsX60, w ∈ lw_all := lw_in wsX60 [672, 674, 676] (by decide +kernel) (by decide +kernel)

/-! DrawerRing$Batch -/
set_option maxRecDepth 100000
def RX7 : String := "DrawerRing$Batch"
def TX7 : u_T := fun k => match k with
  | 0 => ("DrawerRing$Batch", "numbers", "[I", true)
  | 1 => ("DrawerRing$Batch", "order", "[I", true)
  | 2 => ("DrawerRing$Batch", "best", "[I", true)
  | _ => ("DrawerRing$Batch", "many", "I", false)
def tyX7 : Nat → FieldType := fun k => match k with
  | 0 => .array .int
  | 1 => .array .int
  | 2 => .array .int
  | _ => .int
abbrev wsX70 : List Cond := u_ws RX7 TX7 4
theorem nmX7 : ∀ a, a < 4 → ∀ b, b < 4 → a ≠ b → (TX7 a).2.1 ≠ (TX7 b).2.1 := by decide +kernel
theorem tyX7_ok : ∀ k, k < 4 → parseFieldDescriptor (TX7 k).2.2.1 = some (tyX7 k) := by decide +kernel
abbrev cX7_init : ByteArray := prog_2_method_1_code
def yX7_init : MethodName := ⟨RX7, "<init>", "()V"⟩
def dkwX7_init_1 : List UInt8 := [188, 10, 181, 0, 18, 177]
abbrev dktX7_init_1 : List UInt8 := dkwX7_init_1 ++ []
def dkwX7_init_0 : List UInt8 := [42, 183, 0, 3, 42, 16, 7, 188, 10, 181, 0, 9, 42, 16, 6, 188, 10, 181, 0, 15, 42, 16, 6]
abbrev dktX7_init_0 : List UInt8 := dkwX7_init_0 ++ dktX7_init_1
theorem dksX7_init_0 : cX7_init.data.toList.drop 0 = dktX7_init_0 := by decide +kernel
theorem dksX7_init_1 : cX7_init.data.toList.drop 23 = dktX7_init_1 := dk_seg dksX7_init_0 23 rfl rfl
theorem dX7_init_0 : decode cX7_init 0 = .ok (.aload_n 0, 1) := dk_42 (dk_at dksX7_init_0 0 rfl rfl)
theorem dX7_init_1 : decode cX7_init 1 = .ok (.invokespecial 3, 3) := dk_183 0 3 (dk_at dksX7_init_0 1 rfl rfl)
theorem dX7_init_4 : decode cX7_init 4 = .ok (.aload_n 0, 1) := dk_42 (dk_at dksX7_init_0 4 rfl rfl)
theorem dX7_init_5 : decode cX7_init 5 = .ok (.bipush 7, 2) := dk_16 7 (dk_at dksX7_init_0 5 rfl rfl)
theorem dX7_init_7 : decode cX7_init 7 = .ok (.newarray .int, 2) := dk_188_10 (dk_at dksX7_init_0 7 rfl rfl)
theorem dX7_init_9 : decode cX7_init 9 = .ok (.putfield 9, 3) := dk_181 0 9 (dk_at dksX7_init_0 9 rfl rfl)
theorem dX7_init_12 : decode cX7_init 12 = .ok (.aload_n 0, 1) := dk_42 (dk_at dksX7_init_0 12 rfl rfl)
theorem dX7_init_13 : decode cX7_init 13 = .ok (.bipush 6, 2) := dk_16 6 (dk_at dksX7_init_0 13 rfl rfl)
theorem dX7_init_15 : decode cX7_init 15 = .ok (.newarray .int, 2) := dk_188_10 (dk_at dksX7_init_0 15 rfl rfl)
theorem dX7_init_17 : decode cX7_init 17 = .ok (.putfield 15, 3) := dk_181 0 15 (dk_at dksX7_init_0 17 rfl rfl)
theorem dX7_init_20 : decode cX7_init 20 = .ok (.aload_n 0, 1) := dk_42 (dk_at dksX7_init_0 20 rfl rfl)
theorem dX7_init_21 : decode cX7_init 21 = .ok (.bipush 6, 2) := dk_16 6 (dk_at dksX7_init_0 21 rfl rfl)
theorem dX7_init_23 : decode cX7_init 23 = .ok (.newarray .int, 2) := dk_188_10 (dk_at dksX7_init_1 0 rfl rfl)
theorem dX7_init_25 : decode cX7_init 25 = .ok (.putfield 18, 3) := dk_181 0 18 (dk_at dksX7_init_1 2 rfl rfl)
theorem dX7_init_28 : decode cX7_init 28 = .ok (.return_, 1) := dk_177 (dk_at dksX7_init_1 5 rfl rfl)
abbrev cX7_has : ByteArray := prog_2_method_2_code
def yX7_has : MethodName := ⟨RX7, "has", "(I)Z"⟩
def dkwX7_has_1 : List UInt8 := [167, 0, 4, 3, 128, 61, 132, 3, 1, 167, 255, 227, 28, 172]
abbrev dktX7_has_1 : List UInt8 := dkwX7_has_1 ++ []
def dkwX7_has_0 : List UInt8 := [3, 61, 3, 62, 29, 42, 180, 0, 21, 162, 0, 27, 28, 42, 180, 0, 9, 29, 46, 27, 160, 0, 7, 4]
abbrev dktX7_has_0 : List UInt8 := dkwX7_has_0 ++ dktX7_has_1
theorem dksX7_has_0 : cX7_has.data.toList.drop 0 = dktX7_has_0 := by decide +kernel
theorem dksX7_has_1 : cX7_has.data.toList.drop 24 = dktX7_has_1 := dk_seg dksX7_has_0 24 rfl rfl
theorem dX7_has_0 : decode cX7_has 0 = .ok (.iconst 0, 1) := dk_3 (dk_at dksX7_has_0 0 rfl rfl)
theorem dX7_has_1 : decode cX7_has 1 = .ok (.istore_n 2, 1) := dk_61 (dk_at dksX7_has_0 1 rfl rfl)
theorem dX7_has_2 : decode cX7_has 2 = .ok (.iconst 0, 1) := dk_3 (dk_at dksX7_has_0 2 rfl rfl)
theorem dX7_has_3 : decode cX7_has 3 = .ok (.istore_n 3, 1) := dk_62 (dk_at dksX7_has_0 3 rfl rfl)
theorem dX7_has_4 : decode cX7_has 4 = .ok (.iload_n 3, 1) := dk_29 (dk_at dksX7_has_0 4 rfl rfl)
theorem dX7_has_5 : decode cX7_has 5 = .ok (.aload_n 0, 1) := dk_42 (dk_at dksX7_has_0 5 rfl rfl)
theorem dX7_has_6 : decode cX7_has 6 = .ok (.getfield 21, 3) := dk_180 0 21 (dk_at dksX7_has_0 6 rfl rfl)
theorem dX7_has_9 : decode cX7_has 9 = .ok (.if_icmp .ge 27, 3) := dk_162 0 27 (dk_at dksX7_has_0 9 rfl rfl)
theorem dX7_has_12 : decode cX7_has 12 = .ok (.iload_n 2, 1) := dk_28 (dk_at dksX7_has_0 12 rfl rfl)
theorem dX7_has_13 : decode cX7_has 13 = .ok (.aload_n 0, 1) := dk_42 (dk_at dksX7_has_0 13 rfl rfl)
theorem dX7_has_14 : decode cX7_has 14 = .ok (.getfield 9, 3) := dk_180 0 9 (dk_at dksX7_has_0 14 rfl rfl)
theorem dX7_has_17 : decode cX7_has 17 = .ok (.iload_n 3, 1) := dk_29 (dk_at dksX7_has_0 17 rfl rfl)
theorem dX7_has_18 : decode cX7_has 18 = .ok (.iaload, 1) := dk_46 (dk_at dksX7_has_0 18 rfl rfl)
theorem dX7_has_19 : decode cX7_has 19 = .ok (.iload_n 1, 1) := dk_27 (dk_at dksX7_has_0 19 rfl rfl)
theorem dX7_has_20 : decode cX7_has 20 = .ok (.if_icmp .ne 7, 3) := dk_160 0 7 (dk_at dksX7_has_0 20 rfl rfl)
theorem dX7_has_23 : decode cX7_has 23 = .ok (.iconst 1, 1) := dk_4 (dk_at dksX7_has_0 23 rfl rfl)
theorem dX7_has_24 : decode cX7_has 24 = .ok (.goto 4, 3) := dk_167 0 4 (dk_at dksX7_has_1 0 rfl rfl)
theorem dX7_has_27 : decode cX7_has 27 = .ok (.iconst 0, 1) := dk_3 (dk_at dksX7_has_1 3 rfl rfl)
theorem dX7_has_28 : decode cX7_has 28 = .ok (.ior, 1) := dk_128 (dk_at dksX7_has_1 4 rfl rfl)
theorem dX7_has_29 : decode cX7_has 29 = .ok (.istore_n 2, 1) := dk_61 (dk_at dksX7_has_1 5 rfl rfl)
theorem dX7_has_30 : decode cX7_has 30 = .ok (.iinc 3 1, 3) := dk_132 3 1 (dk_at dksX7_has_1 6 rfl rfl)
theorem dX7_has_33 : decode cX7_has 33 = .ok (.goto (-29), 3) := dk_167 255 227 (dk_at dksX7_has_1 9 rfl rfl)
theorem dX7_has_36 : decode cX7_has 36 = .ok (.iload_n 2, 1) := dk_28 (dk_at dksX7_has_1 12 rfl rfl)
theorem dX7_has_37 : decode cX7_has 37 = .ok (.ireturn, 1) := dk_172 (dk_at dksX7_has_1 13 rfl rfl)
abbrev cX7_pick : ByteArray := prog_2_method_11_code
def yX7_pick : MethodName := ⟨RX7, "pick", "(LDrawerRing$Ring;LDrawerRing$Ring;I)I"⟩
def dkwX7_pick_1 : List UInt8 := [167, 0, 9, 42, 43, 44, 182, 0, 98, 172]
abbrev dktX7_pick_1 : List UInt8 := dkwX7_pick_1 ++ []
def dkwX7_pick_0 : List UInt8 := [29, 154, 0, 11, 42, 43, 182, 0, 91, 167, 0, 22, 29, 4, 160, 0, 11, 42, 43, 182, 0, 95]
abbrev dktX7_pick_0 : List UInt8 := dkwX7_pick_0 ++ dktX7_pick_1
theorem dksX7_pick_0 : cX7_pick.data.toList.drop 0 = dktX7_pick_0 := by decide +kernel
theorem dksX7_pick_1 : cX7_pick.data.toList.drop 22 = dktX7_pick_1 := dk_seg dksX7_pick_0 22 rfl rfl
theorem dX7_pick_0 : decode cX7_pick 0 = .ok (.iload_n 3, 1) := dk_29 (dk_at dksX7_pick_0 0 rfl rfl)
theorem dX7_pick_1 : decode cX7_pick 1 = .ok (.ifCond .ne 11, 3) := dk_154 0 11 (dk_at dksX7_pick_0 1 rfl rfl)
theorem dX7_pick_4 : decode cX7_pick 4 = .ok (.aload_n 0, 1) := dk_42 (dk_at dksX7_pick_0 4 rfl rfl)
theorem dX7_pick_5 : decode cX7_pick 5 = .ok (.aload_n 1, 1) := dk_43 (dk_at dksX7_pick_0 5 rfl rfl)
theorem dX7_pick_6 : decode cX7_pick 6 = .ok (.invokevirtual 91, 3) := dk_182 0 91 (dk_at dksX7_pick_0 6 rfl rfl)
theorem dX7_pick_9 : decode cX7_pick 9 = .ok (.goto 22, 3) := dk_167 0 22 (dk_at dksX7_pick_0 9 rfl rfl)
theorem dX7_pick_12 : decode cX7_pick 12 = .ok (.iload_n 3, 1) := dk_29 (dk_at dksX7_pick_0 12 rfl rfl)
theorem dX7_pick_13 : decode cX7_pick 13 = .ok (.iconst 1, 1) := dk_4 (dk_at dksX7_pick_0 13 rfl rfl)
theorem dX7_pick_14 : decode cX7_pick 14 = .ok (.if_icmp .ne 11, 3) := dk_160 0 11 (dk_at dksX7_pick_0 14 rfl rfl)
theorem dX7_pick_17 : decode cX7_pick 17 = .ok (.aload_n 0, 1) := dk_42 (dk_at dksX7_pick_0 17 rfl rfl)
theorem dX7_pick_18 : decode cX7_pick 18 = .ok (.aload_n 1, 1) := dk_43 (dk_at dksX7_pick_0 18 rfl rfl)
theorem dX7_pick_19 : decode cX7_pick 19 = .ok (.invokevirtual 95, 3) := dk_182 0 95 (dk_at dksX7_pick_0 19 rfl rfl)
theorem dX7_pick_22 : decode cX7_pick 22 = .ok (.goto 9, 3) := dk_167 0 9 (dk_at dksX7_pick_1 0 rfl rfl)
theorem dX7_pick_25 : decode cX7_pick 25 = .ok (.aload_n 0, 1) := dk_42 (dk_at dksX7_pick_1 3 rfl rfl)
theorem dX7_pick_26 : decode cX7_pick 26 = .ok (.aload_n 1, 1) := dk_43 (dk_at dksX7_pick_1 4 rfl rfl)
theorem dX7_pick_27 : decode cX7_pick 27 = .ok (.aload_n 2, 1) := dk_44 (dk_at dksX7_pick_1 5 rfl rfl)
theorem dX7_pick_28 : decode cX7_pick 28 = .ok (.invokevirtual 98, 3) := dk_182 0 98 (dk_at dksX7_pick_1 6 rfl rfl)
theorem dX7_pick_31 : decode cX7_pick 31 = .ok (.ireturn, 1) := dk_172 (dk_at dksX7_pick_1 9 rfl rfl)
abbrev cX7_asTold : ByteArray := prog_2_method_4_code
def yX7_asTold : MethodName := ⟨RX7, "asTold", "(LDrawerRing$Ring;)I"⟩
def dkwX7_asTold_1 : List UInt8 := [43, 42, 180, 0, 15, 182, 0, 39, 172]
abbrev dktX7_asTold_1 : List UInt8 := dkwX7_asTold_1 ++ []
def dkwX7_asTold_0 : List UInt8 := [3, 61, 28, 42, 180, 0, 21, 162, 0, 16, 42, 180, 0, 15, 28, 28, 79, 132, 2, 1, 167, 255, 238, 42]
abbrev dktX7_asTold_0 : List UInt8 := dkwX7_asTold_0 ++ dktX7_asTold_1
theorem dksX7_asTold_0 : cX7_asTold.data.toList.drop 0 = dktX7_asTold_0 := by decide +kernel
theorem dksX7_asTold_1 : cX7_asTold.data.toList.drop 24 = dktX7_asTold_1 := dk_seg dksX7_asTold_0 24 rfl rfl
theorem dX7_asTold_0 : decode cX7_asTold 0 = .ok (.iconst 0, 1) := dk_3 (dk_at dksX7_asTold_0 0 rfl rfl)
theorem dX7_asTold_1 : decode cX7_asTold 1 = .ok (.istore_n 2, 1) := dk_61 (dk_at dksX7_asTold_0 1 rfl rfl)
theorem dX7_asTold_2 : decode cX7_asTold 2 = .ok (.iload_n 2, 1) := dk_28 (dk_at dksX7_asTold_0 2 rfl rfl)
theorem dX7_asTold_3 : decode cX7_asTold 3 = .ok (.aload_n 0, 1) := dk_42 (dk_at dksX7_asTold_0 3 rfl rfl)
theorem dX7_asTold_4 : decode cX7_asTold 4 = .ok (.getfield 21, 3) := dk_180 0 21 (dk_at dksX7_asTold_0 4 rfl rfl)
theorem dX7_asTold_7 : decode cX7_asTold 7 = .ok (.if_icmp .ge 16, 3) := dk_162 0 16 (dk_at dksX7_asTold_0 7 rfl rfl)
theorem dX7_asTold_10 : decode cX7_asTold 10 = .ok (.aload_n 0, 1) := dk_42 (dk_at dksX7_asTold_0 10 rfl rfl)
theorem dX7_asTold_11 : decode cX7_asTold 11 = .ok (.getfield 15, 3) := dk_180 0 15 (dk_at dksX7_asTold_0 11 rfl rfl)
theorem dX7_asTold_14 : decode cX7_asTold 14 = .ok (.iload_n 2, 1) := dk_28 (dk_at dksX7_asTold_0 14 rfl rfl)
theorem dX7_asTold_15 : decode cX7_asTold 15 = .ok (.iload_n 2, 1) := dk_28 (dk_at dksX7_asTold_0 15 rfl rfl)
theorem dX7_asTold_16 : decode cX7_asTold 16 = .ok (.iastore, 1) := dk_79 (dk_at dksX7_asTold_0 16 rfl rfl)
theorem dX7_asTold_17 : decode cX7_asTold 17 = .ok (.iinc 2 1, 3) := dk_132 2 1 (dk_at dksX7_asTold_0 17 rfl rfl)
theorem dX7_asTold_20 : decode cX7_asTold 20 = .ok (.goto (-18), 3) := dk_167 255 238 (dk_at dksX7_asTold_0 20 rfl rfl)
theorem dX7_asTold_23 : decode cX7_asTold 23 = .ok (.aload_n 0, 1) := dk_42 (dk_at dksX7_asTold_0 23 rfl rfl)
theorem dX7_asTold_24 : decode cX7_asTold 24 = .ok (.aload_n 1, 1) := dk_43 (dk_at dksX7_asTold_1 0 rfl rfl)
theorem dX7_asTold_25 : decode cX7_asTold 25 = .ok (.aload_n 0, 1) := dk_42 (dk_at dksX7_asTold_1 1 rfl rfl)
theorem dX7_asTold_26 : decode cX7_asTold 26 = .ok (.getfield 15, 3) := dk_180 0 15 (dk_at dksX7_asTold_1 2 rfl rfl)
theorem dX7_asTold_29 : decode cX7_asTold 29 = .ok (.invokevirtual 39, 3) := dk_182 0 39 (dk_at dksX7_asTold_1 5 rfl rfl)
theorem dX7_asTold_32 : decode cX7_asTold 32 = .ok (.ireturn, 1) := dk_172 (dk_at dksX7_asTold_1 8 rfl rfl)
abbrev cX7_inOrder : ByteArray := prog_2_method_3_code
def yX7_inOrder : MethodName := ⟨RX7, "inOrder", "(LDrawerRing$Ring;[I)I"⟩
def dkwX7_inOrder_2 : List UInt8 := [167, 255, 213, 29, 172]
abbrev dktX7_inOrder_2 : List UInt8 := dkwX7_inOrder_2 ++ []
def dkwX7_inOrder_1 : List UInt8 := [154, 0, 26, 43, 43, 42, 180, 0, 9, 44, 29, 46, 46, 182, 0, 31, 182, 0, 35, 87, 132, 3, 1]
abbrev dktX7_inOrder_1 : List UInt8 := dkwX7_inOrder_1 ++ dktX7_inOrder_2
def dkwX7_inOrder_0 : List UInt8 := [3, 62, 29, 42, 180, 0, 21, 162, 0, 41, 43, 42, 180, 0, 9, 44, 29, 46, 46, 182, 0, 25]
abbrev dktX7_inOrder_0 : List UInt8 := dkwX7_inOrder_0 ++ dktX7_inOrder_1
theorem dksX7_inOrder_0 : cX7_inOrder.data.toList.drop 0 = dktX7_inOrder_0 := by decide +kernel
theorem dksX7_inOrder_1 : cX7_inOrder.data.toList.drop 22 = dktX7_inOrder_1 := dk_seg dksX7_inOrder_0 22 rfl rfl
theorem dksX7_inOrder_2 : cX7_inOrder.data.toList.drop 45 = dktX7_inOrder_2 := dk_seg dksX7_inOrder_1 23 rfl rfl
theorem dX7_inOrder_0 : decode cX7_inOrder 0 = .ok (.iconst 0, 1) := dk_3 (dk_at dksX7_inOrder_0 0 rfl rfl)
theorem dX7_inOrder_1 : decode cX7_inOrder 1 = .ok (.istore_n 3, 1) := dk_62 (dk_at dksX7_inOrder_0 1 rfl rfl)
theorem dX7_inOrder_2 : decode cX7_inOrder 2 = .ok (.iload_n 3, 1) := dk_29 (dk_at dksX7_inOrder_0 2 rfl rfl)
theorem dX7_inOrder_3 : decode cX7_inOrder 3 = .ok (.aload_n 0, 1) := dk_42 (dk_at dksX7_inOrder_0 3 rfl rfl)
theorem dX7_inOrder_4 : decode cX7_inOrder 4 = .ok (.getfield 21, 3) := dk_180 0 21 (dk_at dksX7_inOrder_0 4 rfl rfl)
theorem dX7_inOrder_7 : decode cX7_inOrder 7 = .ok (.if_icmp .ge 41, 3) := dk_162 0 41 (dk_at dksX7_inOrder_0 7 rfl rfl)
theorem dX7_inOrder_10 : decode cX7_inOrder 10 = .ok (.aload_n 1, 1) := dk_43 (dk_at dksX7_inOrder_0 10 rfl rfl)
theorem dX7_inOrder_11 : decode cX7_inOrder 11 = .ok (.aload_n 0, 1) := dk_42 (dk_at dksX7_inOrder_0 11 rfl rfl)
theorem dX7_inOrder_12 : decode cX7_inOrder 12 = .ok (.getfield 9, 3) := dk_180 0 9 (dk_at dksX7_inOrder_0 12 rfl rfl)
theorem dX7_inOrder_15 : decode cX7_inOrder 15 = .ok (.aload_n 2, 1) := dk_44 (dk_at dksX7_inOrder_0 15 rfl rfl)
theorem dX7_inOrder_16 : decode cX7_inOrder 16 = .ok (.iload_n 3, 1) := dk_29 (dk_at dksX7_inOrder_0 16 rfl rfl)
theorem dX7_inOrder_17 : decode cX7_inOrder 17 = .ok (.iaload, 1) := dk_46 (dk_at dksX7_inOrder_0 17 rfl rfl)
theorem dX7_inOrder_18 : decode cX7_inOrder 18 = .ok (.iaload, 1) := dk_46 (dk_at dksX7_inOrder_0 18 rfl rfl)
theorem dX7_inOrder_19 : decode cX7_inOrder 19 = .ok (.invokevirtual 25, 3) := dk_182 0 25 (dk_at dksX7_inOrder_0 19 rfl rfl)
theorem dX7_inOrder_22 : decode cX7_inOrder 22 = .ok (.ifCond .ne 26, 3) := dk_154 0 26 (dk_at dksX7_inOrder_1 0 rfl rfl)
theorem dX7_inOrder_25 : decode cX7_inOrder 25 = .ok (.aload_n 1, 1) := dk_43 (dk_at dksX7_inOrder_1 3 rfl rfl)
theorem dX7_inOrder_26 : decode cX7_inOrder 26 = .ok (.aload_n 1, 1) := dk_43 (dk_at dksX7_inOrder_1 4 rfl rfl)
theorem dX7_inOrder_27 : decode cX7_inOrder 27 = .ok (.aload_n 0, 1) := dk_42 (dk_at dksX7_inOrder_1 5 rfl rfl)
theorem dX7_inOrder_28 : decode cX7_inOrder 28 = .ok (.getfield 9, 3) := dk_180 0 9 (dk_at dksX7_inOrder_1 6 rfl rfl)
theorem dX7_inOrder_31 : decode cX7_inOrder 31 = .ok (.aload_n 2, 1) := dk_44 (dk_at dksX7_inOrder_1 9 rfl rfl)
theorem dX7_inOrder_32 : decode cX7_inOrder 32 = .ok (.iload_n 3, 1) := dk_29 (dk_at dksX7_inOrder_1 10 rfl rfl)
theorem dX7_inOrder_33 : decode cX7_inOrder 33 = .ok (.iaload, 1) := dk_46 (dk_at dksX7_inOrder_1 11 rfl rfl)
theorem dX7_inOrder_34 : decode cX7_inOrder 34 = .ok (.iaload, 1) := dk_46 (dk_at dksX7_inOrder_1 12 rfl rfl)
theorem dX7_inOrder_35 : decode cX7_inOrder 35 = .ok (.invokevirtual 31, 3) := dk_182 0 31 (dk_at dksX7_inOrder_1 13 rfl rfl)
theorem dX7_inOrder_38 : decode cX7_inOrder 38 = .ok (.invokevirtual 35, 3) := dk_182 0 35 (dk_at dksX7_inOrder_1 16 rfl rfl)
theorem dX7_inOrder_41 : decode cX7_inOrder 41 = .ok (.pop, 1) := dk_87 (dk_at dksX7_inOrder_1 19 rfl rfl)
theorem dX7_inOrder_42 : decode cX7_inOrder 42 = .ok (.iinc 3 1, 3) := dk_132 3 1 (dk_at dksX7_inOrder_1 20 rfl rfl)
theorem dX7_inOrder_45 : decode cX7_inOrder 45 = .ok (.goto (-43), 3) := dk_167 255 213 (dk_at dksX7_inOrder_2 0 rfl rfl)
theorem dX7_inOrder_48 : decode cX7_inOrder 48 = .ok (.iload_n 3, 1) := dk_29 (dk_at dksX7_inOrder_2 3 rfl rfl)
theorem dX7_inOrder_49 : decode cX7_inOrder 49 = .ok (.ireturn, 1) := dk_172 (dk_at dksX7_inOrder_2 4 rfl rfl)
abbrev cX7_byNearest : ByteArray := prog_2_method_5_code
def yX7_byNearest : MethodName := ⟨RX7, "byNearest", "(LDrawerRing$Ring;)I"⟩
def dkwX7_byNearest_7 : List UInt8 := [167, 255, 97, 28, 172]
abbrev dktX7_byNearest_7 : List UInt8 := dkwX7_byNearest_7 ++ []
def dkwX7_byNearest_6 : List UInt8 := [198, 0, 7, 4, 167, 0, 4, 3, 62, 29, 153, 0, 13, 43, 25, 4, 182, 0, 35, 87, 132, 2, 1]
abbrev dktX7_byNearest_6 : List UInt8 := dkwX7_byNearest_6 ++ dktX7_byNearest_7
def dkwX7_byNearest_5 : List UInt8 := [58, 4, 21, 9, 153, 0, 8, 21, 8, 167, 0, 5, 21, 5, 54, 5, 132, 6, 1, 167, 255, 138, 25, 4]
abbrev dktX7_byNearest_5 : List UInt8 := dkwX7_byNearest_5 ++ dktX7_byNearest_6
def dkwX7_byNearest_4 : List UInt8 := [21, 5, 162, 0, 7, 4, 167, 0, 4, 3, 54, 9, 21, 9, 153, 0, 8, 25, 7, 167, 0, 5, 25, 4]
abbrev dktX7_byNearest_4 : List UInt8 := dkwX7_byNearest_4 ++ dktX7_byNearest_5
def dkwX7_byNearest_3 : List UInt8 := [180, 0, 43, 182, 0, 48, 184, 0, 51, 54, 8, 25, 7, 198, 0, 19, 25, 4, 198, 0, 10, 21, 8]
abbrev dktX7_byNearest_3 : List UInt8 := dkwX7_byNearest_3 ++ dktX7_byNearest_4
def dkwX7_byNearest_2 : List UInt8 := [46, 182, 0, 31, 167, 0, 4, 1, 58, 7, 25, 7, 199, 0, 7, 3, 167, 0, 15, 43, 25, 7]
abbrev dktX7_byNearest_2 : List UInt8 := dkwX7_byNearest_2 ++ dktX7_byNearest_3
def dkwX7_byNearest_1 : List UInt8 := [162, 0, 115, 43, 42, 180, 0, 9, 21, 6, 46, 182, 0, 25, 154, 0, 17, 43, 42, 180, 0, 9, 21, 6]
abbrev dktX7_byNearest_1 : List UInt8 := dkwX7_byNearest_1 ++ dktX7_byNearest_2
def dkwX7_byNearest_0 : List UInt8 := [3, 61, 4, 62, 29, 153, 0, 161, 1, 58, 4, 3, 54, 5, 3, 54, 6, 21, 6, 42, 180, 0, 21]
abbrev dktX7_byNearest_0 : List UInt8 := dkwX7_byNearest_0 ++ dktX7_byNearest_1
theorem dksX7_byNearest_0 : cX7_byNearest.data.toList.drop 0 = dktX7_byNearest_0 := by decide +kernel
theorem dksX7_byNearest_1 : cX7_byNearest.data.toList.drop 23 = dktX7_byNearest_1 := dk_seg dksX7_byNearest_0 23 rfl rfl
theorem dksX7_byNearest_2 : cX7_byNearest.data.toList.drop 47 = dktX7_byNearest_2 := dk_seg dksX7_byNearest_1 24 rfl rfl
theorem dksX7_byNearest_3 : cX7_byNearest.data.toList.drop 69 = dktX7_byNearest_3 := dk_seg dksX7_byNearest_2 22 rfl rfl
theorem dksX7_byNearest_4 : cX7_byNearest.data.toList.drop 92 = dktX7_byNearest_4 := dk_seg dksX7_byNearest_3 23 rfl rfl
theorem dksX7_byNearest_5 : cX7_byNearest.data.toList.drop 116 = dktX7_byNearest_5 := dk_seg dksX7_byNearest_4 24 rfl rfl
theorem dksX7_byNearest_6 : cX7_byNearest.data.toList.drop 140 = dktX7_byNearest_6 := dk_seg dksX7_byNearest_5 24 rfl rfl
theorem dksX7_byNearest_7 : cX7_byNearest.data.toList.drop 163 = dktX7_byNearest_7 := dk_seg dksX7_byNearest_6 23 rfl rfl
theorem dX7_byNearest_0 : decode cX7_byNearest 0 = .ok (.iconst 0, 1) := dk_3 (dk_at dksX7_byNearest_0 0 rfl rfl)
theorem dX7_byNearest_1 : decode cX7_byNearest 1 = .ok (.istore_n 2, 1) := dk_61 (dk_at dksX7_byNearest_0 1 rfl rfl)
theorem dX7_byNearest_2 : decode cX7_byNearest 2 = .ok (.iconst 1, 1) := dk_4 (dk_at dksX7_byNearest_0 2 rfl rfl)
theorem dX7_byNearest_3 : decode cX7_byNearest 3 = .ok (.istore_n 3, 1) := dk_62 (dk_at dksX7_byNearest_0 3 rfl rfl)
theorem dX7_byNearest_4 : decode cX7_byNearest 4 = .ok (.iload_n 3, 1) := dk_29 (dk_at dksX7_byNearest_0 4 rfl rfl)
theorem dX7_byNearest_5 : decode cX7_byNearest 5 = .ok (.ifCond .eq 161, 3) := dk_153 0 161 (dk_at dksX7_byNearest_0 5 rfl rfl)
theorem dX7_byNearest_8 : decode cX7_byNearest 8 = .ok (.aconst_null, 1) := dk_1 (dk_at dksX7_byNearest_0 8 rfl rfl)
theorem dX7_byNearest_9 : decode cX7_byNearest 9 = .ok (.astore 4, 2) := dk_58 4 (dk_at dksX7_byNearest_0 9 rfl rfl)
theorem dX7_byNearest_11 : decode cX7_byNearest 11 = .ok (.iconst 0, 1) := dk_3 (dk_at dksX7_byNearest_0 11 rfl rfl)
theorem dX7_byNearest_12 : decode cX7_byNearest 12 = .ok (.istore 5, 2) := dk_54 5 (dk_at dksX7_byNearest_0 12 rfl rfl)
theorem dX7_byNearest_14 : decode cX7_byNearest 14 = .ok (.iconst 0, 1) := dk_3 (dk_at dksX7_byNearest_0 14 rfl rfl)
theorem dX7_byNearest_15 : decode cX7_byNearest 15 = .ok (.istore 6, 2) := dk_54 6 (dk_at dksX7_byNearest_0 15 rfl rfl)
theorem dX7_byNearest_17 : decode cX7_byNearest 17 = .ok (.iload 6, 2) := dk_21 6 (dk_at dksX7_byNearest_0 17 rfl rfl)
theorem dX7_byNearest_19 : decode cX7_byNearest 19 = .ok (.aload_n 0, 1) := dk_42 (dk_at dksX7_byNearest_0 19 rfl rfl)
theorem dX7_byNearest_20 : decode cX7_byNearest 20 = .ok (.getfield 21, 3) := dk_180 0 21 (dk_at dksX7_byNearest_0 20 rfl rfl)
theorem dX7_byNearest_23 : decode cX7_byNearest 23 = .ok (.if_icmp .ge 115, 3) := dk_162 0 115 (dk_at dksX7_byNearest_1 0 rfl rfl)
theorem dX7_byNearest_26 : decode cX7_byNearest 26 = .ok (.aload_n 1, 1) := dk_43 (dk_at dksX7_byNearest_1 3 rfl rfl)
theorem dX7_byNearest_27 : decode cX7_byNearest 27 = .ok (.aload_n 0, 1) := dk_42 (dk_at dksX7_byNearest_1 4 rfl rfl)
theorem dX7_byNearest_28 : decode cX7_byNearest 28 = .ok (.getfield 9, 3) := dk_180 0 9 (dk_at dksX7_byNearest_1 5 rfl rfl)
theorem dX7_byNearest_31 : decode cX7_byNearest 31 = .ok (.iload 6, 2) := dk_21 6 (dk_at dksX7_byNearest_1 8 rfl rfl)
theorem dX7_byNearest_33 : decode cX7_byNearest 33 = .ok (.iaload, 1) := dk_46 (dk_at dksX7_byNearest_1 10 rfl rfl)
theorem dX7_byNearest_34 : decode cX7_byNearest 34 = .ok (.invokevirtual 25, 3) := dk_182 0 25 (dk_at dksX7_byNearest_1 11 rfl rfl)
theorem dX7_byNearest_37 : decode cX7_byNearest 37 = .ok (.ifCond .ne 17, 3) := dk_154 0 17 (dk_at dksX7_byNearest_1 14 rfl rfl)
theorem dX7_byNearest_40 : decode cX7_byNearest 40 = .ok (.aload_n 1, 1) := dk_43 (dk_at dksX7_byNearest_1 17 rfl rfl)
theorem dX7_byNearest_41 : decode cX7_byNearest 41 = .ok (.aload_n 0, 1) := dk_42 (dk_at dksX7_byNearest_1 18 rfl rfl)
theorem dX7_byNearest_42 : decode cX7_byNearest 42 = .ok (.getfield 9, 3) := dk_180 0 9 (dk_at dksX7_byNearest_1 19 rfl rfl)
theorem dX7_byNearest_45 : decode cX7_byNearest 45 = .ok (.iload 6, 2) := dk_21 6 (dk_at dksX7_byNearest_1 22 rfl rfl)
theorem dX7_byNearest_47 : decode cX7_byNearest 47 = .ok (.iaload, 1) := dk_46 (dk_at dksX7_byNearest_2 0 rfl rfl)
theorem dX7_byNearest_48 : decode cX7_byNearest 48 = .ok (.invokevirtual 31, 3) := dk_182 0 31 (dk_at dksX7_byNearest_2 1 rfl rfl)
theorem dX7_byNearest_51 : decode cX7_byNearest 51 = .ok (.goto 4, 3) := dk_167 0 4 (dk_at dksX7_byNearest_2 4 rfl rfl)
theorem dX7_byNearest_54 : decode cX7_byNearest 54 = .ok (.aconst_null, 1) := dk_1 (dk_at dksX7_byNearest_2 7 rfl rfl)
theorem dX7_byNearest_55 : decode cX7_byNearest 55 = .ok (.astore 7, 2) := dk_58 7 (dk_at dksX7_byNearest_2 8 rfl rfl)
theorem dX7_byNearest_57 : decode cX7_byNearest 57 = .ok (.aload 7, 2) := dk_25 7 (dk_at dksX7_byNearest_2 10 rfl rfl)
theorem dX7_byNearest_59 : decode cX7_byNearest 59 = .ok (.ifnonnull 7, 3) := dk_199 0 7 (dk_at dksX7_byNearest_2 12 rfl rfl)
theorem dX7_byNearest_62 : decode cX7_byNearest 62 = .ok (.iconst 0, 1) := dk_3 (dk_at dksX7_byNearest_2 15 rfl rfl)
theorem dX7_byNearest_63 : decode cX7_byNearest 63 = .ok (.goto 15, 3) := dk_167 0 15 (dk_at dksX7_byNearest_2 16 rfl rfl)
theorem dX7_byNearest_66 : decode cX7_byNearest 66 = .ok (.aload_n 1, 1) := dk_43 (dk_at dksX7_byNearest_2 19 rfl rfl)
theorem dX7_byNearest_67 : decode cX7_byNearest 67 = .ok (.aload 7, 2) := dk_25 7 (dk_at dksX7_byNearest_2 20 rfl rfl)
theorem dX7_byNearest_69 : decode cX7_byNearest 69 = .ok (.getfield 43, 3) := dk_180 0 43 (dk_at dksX7_byNearest_3 0 rfl rfl)
theorem dX7_byNearest_72 : decode cX7_byNearest 72 = .ok (.invokevirtual 48, 3) := dk_182 0 48 (dk_at dksX7_byNearest_3 3 rfl rfl)
theorem dX7_byNearest_75 : decode cX7_byNearest 75 = .ok (.invokestatic 51, 3) := dk_184 0 51 (dk_at dksX7_byNearest_3 6 rfl rfl)
theorem dX7_byNearest_78 : decode cX7_byNearest 78 = .ok (.istore 8, 2) := dk_54 8 (dk_at dksX7_byNearest_3 9 rfl rfl)
theorem dX7_byNearest_80 : decode cX7_byNearest 80 = .ok (.aload 7, 2) := dk_25 7 (dk_at dksX7_byNearest_3 11 rfl rfl)
theorem dX7_byNearest_82 : decode cX7_byNearest 82 = .ok (.ifnull 19, 3) := dk_198 0 19 (dk_at dksX7_byNearest_3 13 rfl rfl)
theorem dX7_byNearest_85 : decode cX7_byNearest 85 = .ok (.aload 4, 2) := dk_25 4 (dk_at dksX7_byNearest_3 16 rfl rfl)
theorem dX7_byNearest_87 : decode cX7_byNearest 87 = .ok (.ifnull 10, 3) := dk_198 0 10 (dk_at dksX7_byNearest_3 18 rfl rfl)
theorem dX7_byNearest_90 : decode cX7_byNearest 90 = .ok (.iload 8, 2) := dk_21 8 (dk_at dksX7_byNearest_3 21 rfl rfl)
theorem dX7_byNearest_92 : decode cX7_byNearest 92 = .ok (.iload 5, 2) := dk_21 5 (dk_at dksX7_byNearest_4 0 rfl rfl)
theorem dX7_byNearest_94 : decode cX7_byNearest 94 = .ok (.if_icmp .ge 7, 3) := dk_162 0 7 (dk_at dksX7_byNearest_4 2 rfl rfl)
theorem dX7_byNearest_97 : decode cX7_byNearest 97 = .ok (.iconst 1, 1) := dk_4 (dk_at dksX7_byNearest_4 5 rfl rfl)
theorem dX7_byNearest_98 : decode cX7_byNearest 98 = .ok (.goto 4, 3) := dk_167 0 4 (dk_at dksX7_byNearest_4 6 rfl rfl)
theorem dX7_byNearest_101 : decode cX7_byNearest 101 = .ok (.iconst 0, 1) := dk_3 (dk_at dksX7_byNearest_4 9 rfl rfl)
theorem dX7_byNearest_102 : decode cX7_byNearest 102 = .ok (.istore 9, 2) := dk_54 9 (dk_at dksX7_byNearest_4 10 rfl rfl)
theorem dX7_byNearest_104 : decode cX7_byNearest 104 = .ok (.iload 9, 2) := dk_21 9 (dk_at dksX7_byNearest_4 12 rfl rfl)
theorem dX7_byNearest_106 : decode cX7_byNearest 106 = .ok (.ifCond .eq 8, 3) := dk_153 0 8 (dk_at dksX7_byNearest_4 14 rfl rfl)
theorem dX7_byNearest_109 : decode cX7_byNearest 109 = .ok (.aload 7, 2) := dk_25 7 (dk_at dksX7_byNearest_4 17 rfl rfl)
theorem dX7_byNearest_111 : decode cX7_byNearest 111 = .ok (.goto 5, 3) := dk_167 0 5 (dk_at dksX7_byNearest_4 19 rfl rfl)
theorem dX7_byNearest_114 : decode cX7_byNearest 114 = .ok (.aload 4, 2) := dk_25 4 (dk_at dksX7_byNearest_4 22 rfl rfl)
theorem dX7_byNearest_116 : decode cX7_byNearest 116 = .ok (.astore 4, 2) := dk_58 4 (dk_at dksX7_byNearest_5 0 rfl rfl)
theorem dX7_byNearest_118 : decode cX7_byNearest 118 = .ok (.iload 9, 2) := dk_21 9 (dk_at dksX7_byNearest_5 2 rfl rfl)
theorem dX7_byNearest_120 : decode cX7_byNearest 120 = .ok (.ifCond .eq 8, 3) := dk_153 0 8 (dk_at dksX7_byNearest_5 4 rfl rfl)
theorem dX7_byNearest_123 : decode cX7_byNearest 123 = .ok (.iload 8, 2) := dk_21 8 (dk_at dksX7_byNearest_5 7 rfl rfl)
theorem dX7_byNearest_125 : decode cX7_byNearest 125 = .ok (.goto 5, 3) := dk_167 0 5 (dk_at dksX7_byNearest_5 9 rfl rfl)
theorem dX7_byNearest_128 : decode cX7_byNearest 128 = .ok (.iload 5, 2) := dk_21 5 (dk_at dksX7_byNearest_5 12 rfl rfl)
theorem dX7_byNearest_130 : decode cX7_byNearest 130 = .ok (.istore 5, 2) := dk_54 5 (dk_at dksX7_byNearest_5 14 rfl rfl)
theorem dX7_byNearest_132 : decode cX7_byNearest 132 = .ok (.iinc 6 1, 3) := dk_132 6 1 (dk_at dksX7_byNearest_5 16 rfl rfl)
theorem dX7_byNearest_135 : decode cX7_byNearest 135 = .ok (.goto (-118), 3) := dk_167 255 138 (dk_at dksX7_byNearest_5 19 rfl rfl)
theorem dX7_byNearest_138 : decode cX7_byNearest 138 = .ok (.aload 4, 2) := dk_25 4 (dk_at dksX7_byNearest_5 22 rfl rfl)
theorem dX7_byNearest_140 : decode cX7_byNearest 140 = .ok (.ifnull 7, 3) := dk_198 0 7 (dk_at dksX7_byNearest_6 0 rfl rfl)
theorem dX7_byNearest_143 : decode cX7_byNearest 143 = .ok (.iconst 1, 1) := dk_4 (dk_at dksX7_byNearest_6 3 rfl rfl)
theorem dX7_byNearest_144 : decode cX7_byNearest 144 = .ok (.goto 4, 3) := dk_167 0 4 (dk_at dksX7_byNearest_6 4 rfl rfl)
theorem dX7_byNearest_147 : decode cX7_byNearest 147 = .ok (.iconst 0, 1) := dk_3 (dk_at dksX7_byNearest_6 7 rfl rfl)
theorem dX7_byNearest_148 : decode cX7_byNearest 148 = .ok (.istore_n 3, 1) := dk_62 (dk_at dksX7_byNearest_6 8 rfl rfl)
theorem dX7_byNearest_149 : decode cX7_byNearest 149 = .ok (.iload_n 3, 1) := dk_29 (dk_at dksX7_byNearest_6 9 rfl rfl)
theorem dX7_byNearest_150 : decode cX7_byNearest 150 = .ok (.ifCond .eq 13, 3) := dk_153 0 13 (dk_at dksX7_byNearest_6 10 rfl rfl)
theorem dX7_byNearest_153 : decode cX7_byNearest 153 = .ok (.aload_n 1, 1) := dk_43 (dk_at dksX7_byNearest_6 13 rfl rfl)
theorem dX7_byNearest_154 : decode cX7_byNearest 154 = .ok (.aload 4, 2) := dk_25 4 (dk_at dksX7_byNearest_6 14 rfl rfl)
theorem dX7_byNearest_156 : decode cX7_byNearest 156 = .ok (.invokevirtual 35, 3) := dk_182 0 35 (dk_at dksX7_byNearest_6 16 rfl rfl)
theorem dX7_byNearest_159 : decode cX7_byNearest 159 = .ok (.pop, 1) := dk_87 (dk_at dksX7_byNearest_6 19 rfl rfl)
theorem dX7_byNearest_160 : decode cX7_byNearest 160 = .ok (.iinc 2 1, 3) := dk_132 2 1 (dk_at dksX7_byNearest_6 20 rfl rfl)
theorem dX7_byNearest_163 : decode cX7_byNearest 163 = .ok (.goto (-159), 3) := dk_167 255 97 (dk_at dksX7_byNearest_7 0 rfl rfl)
theorem dX7_byNearest_166 : decode cX7_byNearest 166 = .ok (.iload_n 2, 1) := dk_28 (dk_at dksX7_byNearest_7 3 rfl rfl)
theorem dX7_byNearest_167 : decode cX7_byNearest 167 = .ok (.ireturn, 1) := dk_172 (dk_at dksX7_byNearest_7 4 rfl rfl)
abbrev cX7_byFewest : ByteArray := prog_2_method_10_code
def yX7_byFewest : MethodName := ⟨RX7, "byFewest", "(LDrawerRing$Ring;LDrawerRing$Ring;)I"⟩
def dkwX7_byFewest_5 : List UInt8 := [43, 182, 0, 91, 167, 0, 12, 42, 43, 42, 180, 0, 18, 182, 0, 39, 172]
abbrev dktX7_byFewest_5 : List UInt8 := dkwX7_byFewest_5 ++ []
def dkwX7_byFewest_4 : List UInt8 := [3, 42, 180, 0, 21, 184, 0, 69, 42, 182, 0, 87, 54, 5, 167, 255, 196, 21, 4, 2, 160, 0, 11, 42]
abbrev dktX7_byFewest_4 : List UInt8 := dkwX7_byFewest_4 ++ dktX7_byFewest_5
def dkwX7_byFewest_3 : List UInt8 := [2, 159, 0, 10, 21, 6, 21, 4, 162, 0, 24, 21, 6, 54, 4, 42, 180, 0, 15, 3, 42, 180, 0, 18]
abbrev dktX7_byFewest_3 : List UInt8 := dkwX7_byFewest_3 ++ dktX7_byFewest_4
def dkwX7_byFewest_2 : List UInt8 := [54, 5, 21, 5, 153, 0, 61, 42, 43, 44, 45, 182, 0, 83, 54, 6, 21, 6, 2, 159, 0, 37, 21, 4]
abbrev dktX7_byFewest_2 : List UInt8 := dkwX7_byFewest_2 ++ dktX7_byFewest_3
def dkwX7_byFewest_1 : List UInt8 := [180, 0, 15, 21, 5, 21, 5, 79, 132, 5, 1, 167, 255, 235, 45, 198, 0, 7, 4, 167, 0, 4, 3]
abbrev dktX7_byFewest_1 : List UInt8 := dkwX7_byFewest_1 ++ dktX7_byFewest_2
def dkwX7_byFewest_0 : List UInt8 := [42, 43, 182, 0, 79, 78, 2, 54, 4, 3, 54, 5, 21, 5, 42, 180, 0, 21, 162, 0, 18, 42]
abbrev dktX7_byFewest_0 : List UInt8 := dkwX7_byFewest_0 ++ dktX7_byFewest_1
theorem dksX7_byFewest_0 : cX7_byFewest.data.toList.drop 0 = dktX7_byFewest_0 := by decide +kernel
theorem dksX7_byFewest_1 : cX7_byFewest.data.toList.drop 22 = dktX7_byFewest_1 := dk_seg dksX7_byFewest_0 22 rfl rfl
theorem dksX7_byFewest_2 : cX7_byFewest.data.toList.drop 45 = dktX7_byFewest_2 := dk_seg dksX7_byFewest_1 23 rfl rfl
theorem dksX7_byFewest_3 : cX7_byFewest.data.toList.drop 69 = dktX7_byFewest_3 := dk_seg dksX7_byFewest_2 24 rfl rfl
theorem dksX7_byFewest_4 : cX7_byFewest.data.toList.drop 93 = dktX7_byFewest_4 := dk_seg dksX7_byFewest_3 24 rfl rfl
theorem dksX7_byFewest_5 : cX7_byFewest.data.toList.drop 117 = dktX7_byFewest_5 := dk_seg dksX7_byFewest_4 24 rfl rfl
theorem dX7_byFewest_0 : decode cX7_byFewest 0 = .ok (.aload_n 0, 1) := dk_42 (dk_at dksX7_byFewest_0 0 rfl rfl)
theorem dX7_byFewest_1 : decode cX7_byFewest 1 = .ok (.aload_n 1, 1) := dk_43 (dk_at dksX7_byFewest_0 1 rfl rfl)
theorem dX7_byFewest_2 : decode cX7_byFewest 2 = .ok (.invokevirtual 79, 3) := dk_182 0 79 (dk_at dksX7_byFewest_0 2 rfl rfl)
theorem dX7_byFewest_5 : decode cX7_byFewest 5 = .ok (.astore_n 3, 1) := dk_78 (dk_at dksX7_byFewest_0 5 rfl rfl)
theorem dX7_byFewest_6 : decode cX7_byFewest 6 = .ok (.iconst (-1), 1) := dk_2 (dk_at dksX7_byFewest_0 6 rfl rfl)
theorem dX7_byFewest_7 : decode cX7_byFewest 7 = .ok (.istore 4, 2) := dk_54 4 (dk_at dksX7_byFewest_0 7 rfl rfl)
theorem dX7_byFewest_9 : decode cX7_byFewest 9 = .ok (.iconst 0, 1) := dk_3 (dk_at dksX7_byFewest_0 9 rfl rfl)
theorem dX7_byFewest_10 : decode cX7_byFewest 10 = .ok (.istore 5, 2) := dk_54 5 (dk_at dksX7_byFewest_0 10 rfl rfl)
theorem dX7_byFewest_12 : decode cX7_byFewest 12 = .ok (.iload 5, 2) := dk_21 5 (dk_at dksX7_byFewest_0 12 rfl rfl)
theorem dX7_byFewest_14 : decode cX7_byFewest 14 = .ok (.aload_n 0, 1) := dk_42 (dk_at dksX7_byFewest_0 14 rfl rfl)
theorem dX7_byFewest_15 : decode cX7_byFewest 15 = .ok (.getfield 21, 3) := dk_180 0 21 (dk_at dksX7_byFewest_0 15 rfl rfl)
theorem dX7_byFewest_18 : decode cX7_byFewest 18 = .ok (.if_icmp .ge 18, 3) := dk_162 0 18 (dk_at dksX7_byFewest_0 18 rfl rfl)
theorem dX7_byFewest_21 : decode cX7_byFewest 21 = .ok (.aload_n 0, 1) := dk_42 (dk_at dksX7_byFewest_0 21 rfl rfl)
theorem dX7_byFewest_22 : decode cX7_byFewest 22 = .ok (.getfield 15, 3) := dk_180 0 15 (dk_at dksX7_byFewest_1 0 rfl rfl)
theorem dX7_byFewest_25 : decode cX7_byFewest 25 = .ok (.iload 5, 2) := dk_21 5 (dk_at dksX7_byFewest_1 3 rfl rfl)
theorem dX7_byFewest_27 : decode cX7_byFewest 27 = .ok (.iload 5, 2) := dk_21 5 (dk_at dksX7_byFewest_1 5 rfl rfl)
theorem dX7_byFewest_29 : decode cX7_byFewest 29 = .ok (.iastore, 1) := dk_79 (dk_at dksX7_byFewest_1 7 rfl rfl)
theorem dX7_byFewest_30 : decode cX7_byFewest 30 = .ok (.iinc 5 1, 3) := dk_132 5 1 (dk_at dksX7_byFewest_1 8 rfl rfl)
theorem dX7_byFewest_33 : decode cX7_byFewest 33 = .ok (.goto (-21), 3) := dk_167 255 235 (dk_at dksX7_byFewest_1 11 rfl rfl)
theorem dX7_byFewest_36 : decode cX7_byFewest 36 = .ok (.aload_n 3, 1) := dk_45 (dk_at dksX7_byFewest_1 14 rfl rfl)
theorem dX7_byFewest_37 : decode cX7_byFewest 37 = .ok (.ifnull 7, 3) := dk_198 0 7 (dk_at dksX7_byFewest_1 15 rfl rfl)
theorem dX7_byFewest_40 : decode cX7_byFewest 40 = .ok (.iconst 1, 1) := dk_4 (dk_at dksX7_byFewest_1 18 rfl rfl)
theorem dX7_byFewest_41 : decode cX7_byFewest 41 = .ok (.goto 4, 3) := dk_167 0 4 (dk_at dksX7_byFewest_1 19 rfl rfl)
theorem dX7_byFewest_44 : decode cX7_byFewest 44 = .ok (.iconst 0, 1) := dk_3 (dk_at dksX7_byFewest_1 22 rfl rfl)
theorem dX7_byFewest_45 : decode cX7_byFewest 45 = .ok (.istore 5, 2) := dk_54 5 (dk_at dksX7_byFewest_2 0 rfl rfl)
theorem dX7_byFewest_47 : decode cX7_byFewest 47 = .ok (.iload 5, 2) := dk_21 5 (dk_at dksX7_byFewest_2 2 rfl rfl)
theorem dX7_byFewest_49 : decode cX7_byFewest 49 = .ok (.ifCond .eq 61, 3) := dk_153 0 61 (dk_at dksX7_byFewest_2 4 rfl rfl)
theorem dX7_byFewest_52 : decode cX7_byFewest 52 = .ok (.aload_n 0, 1) := dk_42 (dk_at dksX7_byFewest_2 7 rfl rfl)
theorem dX7_byFewest_53 : decode cX7_byFewest 53 = .ok (.aload_n 1, 1) := dk_43 (dk_at dksX7_byFewest_2 8 rfl rfl)
theorem dX7_byFewest_54 : decode cX7_byFewest 54 = .ok (.aload_n 2, 1) := dk_44 (dk_at dksX7_byFewest_2 9 rfl rfl)
theorem dX7_byFewest_55 : decode cX7_byFewest 55 = .ok (.aload_n 3, 1) := dk_45 (dk_at dksX7_byFewest_2 10 rfl rfl)
theorem dX7_byFewest_56 : decode cX7_byFewest 56 = .ok (.invokevirtual 83, 3) := dk_182 0 83 (dk_at dksX7_byFewest_2 11 rfl rfl)
theorem dX7_byFewest_59 : decode cX7_byFewest 59 = .ok (.istore 6, 2) := dk_54 6 (dk_at dksX7_byFewest_2 14 rfl rfl)
theorem dX7_byFewest_61 : decode cX7_byFewest 61 = .ok (.iload 6, 2) := dk_21 6 (dk_at dksX7_byFewest_2 16 rfl rfl)
theorem dX7_byFewest_63 : decode cX7_byFewest 63 = .ok (.iconst (-1), 1) := dk_2 (dk_at dksX7_byFewest_2 18 rfl rfl)
theorem dX7_byFewest_64 : decode cX7_byFewest 64 = .ok (.if_icmp .eq 37, 3) := dk_159 0 37 (dk_at dksX7_byFewest_2 19 rfl rfl)
theorem dX7_byFewest_67 : decode cX7_byFewest 67 = .ok (.iload 4, 2) := dk_21 4 (dk_at dksX7_byFewest_2 22 rfl rfl)
theorem dX7_byFewest_69 : decode cX7_byFewest 69 = .ok (.iconst (-1), 1) := dk_2 (dk_at dksX7_byFewest_3 0 rfl rfl)
theorem dX7_byFewest_70 : decode cX7_byFewest 70 = .ok (.if_icmp .eq 10, 3) := dk_159 0 10 (dk_at dksX7_byFewest_3 1 rfl rfl)
theorem dX7_byFewest_73 : decode cX7_byFewest 73 = .ok (.iload 6, 2) := dk_21 6 (dk_at dksX7_byFewest_3 4 rfl rfl)
theorem dX7_byFewest_75 : decode cX7_byFewest 75 = .ok (.iload 4, 2) := dk_21 4 (dk_at dksX7_byFewest_3 6 rfl rfl)
theorem dX7_byFewest_77 : decode cX7_byFewest 77 = .ok (.if_icmp .ge 24, 3) := dk_162 0 24 (dk_at dksX7_byFewest_3 8 rfl rfl)
theorem dX7_byFewest_80 : decode cX7_byFewest 80 = .ok (.iload 6, 2) := dk_21 6 (dk_at dksX7_byFewest_3 11 rfl rfl)
theorem dX7_byFewest_82 : decode cX7_byFewest 82 = .ok (.istore 4, 2) := dk_54 4 (dk_at dksX7_byFewest_3 13 rfl rfl)
theorem dX7_byFewest_84 : decode cX7_byFewest 84 = .ok (.aload_n 0, 1) := dk_42 (dk_at dksX7_byFewest_3 15 rfl rfl)
theorem dX7_byFewest_85 : decode cX7_byFewest 85 = .ok (.getfield 15, 3) := dk_180 0 15 (dk_at dksX7_byFewest_3 16 rfl rfl)
theorem dX7_byFewest_88 : decode cX7_byFewest 88 = .ok (.iconst 0, 1) := dk_3 (dk_at dksX7_byFewest_3 19 rfl rfl)
theorem dX7_byFewest_89 : decode cX7_byFewest 89 = .ok (.aload_n 0, 1) := dk_42 (dk_at dksX7_byFewest_3 20 rfl rfl)
theorem dX7_byFewest_90 : decode cX7_byFewest 90 = .ok (.getfield 18, 3) := dk_180 0 18 (dk_at dksX7_byFewest_3 21 rfl rfl)
theorem dX7_byFewest_93 : decode cX7_byFewest 93 = .ok (.iconst 0, 1) := dk_3 (dk_at dksX7_byFewest_4 0 rfl rfl)
theorem dX7_byFewest_94 : decode cX7_byFewest 94 = .ok (.aload_n 0, 1) := dk_42 (dk_at dksX7_byFewest_4 1 rfl rfl)
theorem dX7_byFewest_95 : decode cX7_byFewest 95 = .ok (.getfield 21, 3) := dk_180 0 21 (dk_at dksX7_byFewest_4 2 rfl rfl)
theorem dX7_byFewest_98 : decode cX7_byFewest 98 = .ok (.invokestatic 69, 3) := dk_184 0 69 (dk_at dksX7_byFewest_4 5 rfl rfl)
theorem dX7_byFewest_101 : decode cX7_byFewest 101 = .ok (.aload_n 0, 1) := dk_42 (dk_at dksX7_byFewest_4 8 rfl rfl)
theorem dX7_byFewest_102 : decode cX7_byFewest 102 = .ok (.invokevirtual 87, 3) := dk_182 0 87 (dk_at dksX7_byFewest_4 9 rfl rfl)
theorem dX7_byFewest_105 : decode cX7_byFewest 105 = .ok (.istore 5, 2) := dk_54 5 (dk_at dksX7_byFewest_4 12 rfl rfl)
theorem dX7_byFewest_107 : decode cX7_byFewest 107 = .ok (.goto (-60), 3) := dk_167 255 196 (dk_at dksX7_byFewest_4 14 rfl rfl)
theorem dX7_byFewest_110 : decode cX7_byFewest 110 = .ok (.iload 4, 2) := dk_21 4 (dk_at dksX7_byFewest_4 17 rfl rfl)
theorem dX7_byFewest_112 : decode cX7_byFewest 112 = .ok (.iconst (-1), 1) := dk_2 (dk_at dksX7_byFewest_4 19 rfl rfl)
theorem dX7_byFewest_113 : decode cX7_byFewest 113 = .ok (.if_icmp .ne 11, 3) := dk_160 0 11 (dk_at dksX7_byFewest_4 20 rfl rfl)
theorem dX7_byFewest_116 : decode cX7_byFewest 116 = .ok (.aload_n 0, 1) := dk_42 (dk_at dksX7_byFewest_4 23 rfl rfl)
theorem dX7_byFewest_117 : decode cX7_byFewest 117 = .ok (.aload_n 1, 1) := dk_43 (dk_at dksX7_byFewest_5 0 rfl rfl)
theorem dX7_byFewest_118 : decode cX7_byFewest 118 = .ok (.invokevirtual 91, 3) := dk_182 0 91 (dk_at dksX7_byFewest_5 1 rfl rfl)
theorem dX7_byFewest_121 : decode cX7_byFewest 121 = .ok (.goto 12, 3) := dk_167 0 12 (dk_at dksX7_byFewest_5 4 rfl rfl)
theorem dX7_byFewest_124 : decode cX7_byFewest 124 = .ok (.aload_n 0, 1) := dk_42 (dk_at dksX7_byFewest_5 7 rfl rfl)
theorem dX7_byFewest_125 : decode cX7_byFewest 125 = .ok (.aload_n 1, 1) := dk_43 (dk_at dksX7_byFewest_5 8 rfl rfl)
theorem dX7_byFewest_126 : decode cX7_byFewest 126 = .ok (.aload_n 0, 1) := dk_42 (dk_at dksX7_byFewest_5 9 rfl rfl)
theorem dX7_byFewest_127 : decode cX7_byFewest 127 = .ok (.getfield 18, 3) := dk_180 0 18 (dk_at dksX7_byFewest_5 10 rfl rfl)
theorem dX7_byFewest_130 : decode cX7_byFewest 130 = .ok (.invokevirtual 39, 3) := dk_182 0 39 (dk_at dksX7_byFewest_5 13 rfl rfl)
theorem dX7_byFewest_133 : decode cX7_byFewest 133 = .ok (.ireturn, 1) := dk_172 (dk_at dksX7_byFewest_5 16 rfl rfl)
abbrev cX7_all : ByteArray := prog_2_method_9_code
def yX7_all : MethodName := ⟨RX7, "all", "(LDrawerRing$Ring;)[LDrawerRing$Item;"⟩
def dkwX7_all_3 : List UInt8 := [167, 255, 199, 29, 153, 0, 7, 44, 167, 0, 4, 1, 176]
abbrev dktX7_all_3 : List UInt8 := dkwX7_all_3 ++ []
def dkwX7_all_2 : List UInt8 := [180, 0, 75, 44, 21, 4, 50, 180, 0, 43, 51, 154, 0, 7, 4, 167, 0, 4, 3, 126, 62, 132, 4, 1]
abbrev dktX7_all_2 : List UInt8 := dkwX7_all_2 ++ dktX7_all_3
def dkwX7_all_1 : List UInt8 := [21, 4, 43, 42, 180, 0, 9, 21, 4, 46, 182, 0, 31, 83, 29, 44, 21, 4, 50, 198, 0, 22, 43]
abbrev dktX7_all_1 : List UInt8 := dkwX7_all_1 ++ dktX7_all_2
def dkwX7_all_0 : List UInt8 := [42, 180, 0, 21, 189, 0, 44, 77, 4, 62, 3, 54, 4, 21, 4, 42, 180, 0, 21, 162, 0, 54, 44]
abbrev dktX7_all_0 : List UInt8 := dkwX7_all_0 ++ dktX7_all_1
theorem dksX7_all_0 : cX7_all.data.toList.drop 0 = dktX7_all_0 := by decide +kernel
theorem dksX7_all_1 : cX7_all.data.toList.drop 23 = dktX7_all_1 := dk_seg dksX7_all_0 23 rfl rfl
theorem dksX7_all_2 : cX7_all.data.toList.drop 46 = dktX7_all_2 := dk_seg dksX7_all_1 23 rfl rfl
theorem dksX7_all_3 : cX7_all.data.toList.drop 70 = dktX7_all_3 := dk_seg dksX7_all_2 24 rfl rfl
theorem dX7_all_0 : decode cX7_all 0 = .ok (.aload_n 0, 1) := dk_42 (dk_at dksX7_all_0 0 rfl rfl)
theorem dX7_all_1 : decode cX7_all 1 = .ok (.getfield 21, 3) := dk_180 0 21 (dk_at dksX7_all_0 1 rfl rfl)
theorem dX7_all_4 : decode cX7_all 4 = .ok (.anewarray 44, 3) := dk_189 0 44 (dk_at dksX7_all_0 4 rfl rfl)
theorem dX7_all_7 : decode cX7_all 7 = .ok (.astore_n 2, 1) := dk_77 (dk_at dksX7_all_0 7 rfl rfl)
theorem dX7_all_8 : decode cX7_all 8 = .ok (.iconst 1, 1) := dk_4 (dk_at dksX7_all_0 8 rfl rfl)
theorem dX7_all_9 : decode cX7_all 9 = .ok (.istore_n 3, 1) := dk_62 (dk_at dksX7_all_0 9 rfl rfl)
theorem dX7_all_10 : decode cX7_all 10 = .ok (.iconst 0, 1) := dk_3 (dk_at dksX7_all_0 10 rfl rfl)
theorem dX7_all_11 : decode cX7_all 11 = .ok (.istore 4, 2) := dk_54 4 (dk_at dksX7_all_0 11 rfl rfl)
theorem dX7_all_13 : decode cX7_all 13 = .ok (.iload 4, 2) := dk_21 4 (dk_at dksX7_all_0 13 rfl rfl)
theorem dX7_all_15 : decode cX7_all 15 = .ok (.aload_n 0, 1) := dk_42 (dk_at dksX7_all_0 15 rfl rfl)
theorem dX7_all_16 : decode cX7_all 16 = .ok (.getfield 21, 3) := dk_180 0 21 (dk_at dksX7_all_0 16 rfl rfl)
theorem dX7_all_19 : decode cX7_all 19 = .ok (.if_icmp .ge 54, 3) := dk_162 0 54 (dk_at dksX7_all_0 19 rfl rfl)
theorem dX7_all_22 : decode cX7_all 22 = .ok (.aload_n 2, 1) := dk_44 (dk_at dksX7_all_0 22 rfl rfl)
theorem dX7_all_23 : decode cX7_all 23 = .ok (.iload 4, 2) := dk_21 4 (dk_at dksX7_all_1 0 rfl rfl)
theorem dX7_all_25 : decode cX7_all 25 = .ok (.aload_n 1, 1) := dk_43 (dk_at dksX7_all_1 2 rfl rfl)
theorem dX7_all_26 : decode cX7_all 26 = .ok (.aload_n 0, 1) := dk_42 (dk_at dksX7_all_1 3 rfl rfl)
theorem dX7_all_27 : decode cX7_all 27 = .ok (.getfield 9, 3) := dk_180 0 9 (dk_at dksX7_all_1 4 rfl rfl)
theorem dX7_all_30 : decode cX7_all 30 = .ok (.iload 4, 2) := dk_21 4 (dk_at dksX7_all_1 7 rfl rfl)
theorem dX7_all_32 : decode cX7_all 32 = .ok (.iaload, 1) := dk_46 (dk_at dksX7_all_1 9 rfl rfl)
theorem dX7_all_33 : decode cX7_all 33 = .ok (.invokevirtual 31, 3) := dk_182 0 31 (dk_at dksX7_all_1 10 rfl rfl)
theorem dX7_all_36 : decode cX7_all 36 = .ok (.aastore, 1) := dk_83 (dk_at dksX7_all_1 13 rfl rfl)
theorem dX7_all_37 : decode cX7_all 37 = .ok (.iload_n 3, 1) := dk_29 (dk_at dksX7_all_1 14 rfl rfl)
theorem dX7_all_38 : decode cX7_all 38 = .ok (.aload_n 2, 1) := dk_44 (dk_at dksX7_all_1 15 rfl rfl)
theorem dX7_all_39 : decode cX7_all 39 = .ok (.iload 4, 2) := dk_21 4 (dk_at dksX7_all_1 16 rfl rfl)
theorem dX7_all_41 : decode cX7_all 41 = .ok (.aaload, 1) := dk_50 (dk_at dksX7_all_1 18 rfl rfl)
theorem dX7_all_42 : decode cX7_all 42 = .ok (.ifnull 22, 3) := dk_198 0 22 (dk_at dksX7_all_1 19 rfl rfl)
theorem dX7_all_45 : decode cX7_all 45 = .ok (.aload_n 1, 1) := dk_43 (dk_at dksX7_all_1 22 rfl rfl)
theorem dX7_all_46 : decode cX7_all 46 = .ok (.getfield 75, 3) := dk_180 0 75 (dk_at dksX7_all_2 0 rfl rfl)
theorem dX7_all_49 : decode cX7_all 49 = .ok (.aload_n 2, 1) := dk_44 (dk_at dksX7_all_2 3 rfl rfl)
theorem dX7_all_50 : decode cX7_all 50 = .ok (.iload 4, 2) := dk_21 4 (dk_at dksX7_all_2 4 rfl rfl)
theorem dX7_all_52 : decode cX7_all 52 = .ok (.aaload, 1) := dk_50 (dk_at dksX7_all_2 6 rfl rfl)
theorem dX7_all_53 : decode cX7_all 53 = .ok (.getfield 43, 3) := dk_180 0 43 (dk_at dksX7_all_2 7 rfl rfl)
theorem dX7_all_56 : decode cX7_all 56 = .ok (.baload, 1) := dk_51 (dk_at dksX7_all_2 10 rfl rfl)
theorem dX7_all_57 : decode cX7_all 57 = .ok (.ifCond .ne 7, 3) := dk_154 0 7 (dk_at dksX7_all_2 11 rfl rfl)
theorem dX7_all_60 : decode cX7_all 60 = .ok (.iconst 1, 1) := dk_4 (dk_at dksX7_all_2 14 rfl rfl)
theorem dX7_all_61 : decode cX7_all 61 = .ok (.goto 4, 3) := dk_167 0 4 (dk_at dksX7_all_2 15 rfl rfl)
theorem dX7_all_64 : decode cX7_all 64 = .ok (.iconst 0, 1) := dk_3 (dk_at dksX7_all_2 18 rfl rfl)
theorem dX7_all_65 : decode cX7_all 65 = .ok (.iand, 1) := dk_126 (dk_at dksX7_all_2 19 rfl rfl)
theorem dX7_all_66 : decode cX7_all 66 = .ok (.istore_n 3, 1) := dk_62 (dk_at dksX7_all_2 20 rfl rfl)
theorem dX7_all_67 : decode cX7_all 67 = .ok (.iinc 4 1, 3) := dk_132 4 1 (dk_at dksX7_all_2 21 rfl rfl)
theorem dX7_all_70 : decode cX7_all 70 = .ok (.goto (-57), 3) := dk_167 255 199 (dk_at dksX7_all_3 0 rfl rfl)
theorem dX7_all_73 : decode cX7_all 73 = .ok (.iload_n 3, 1) := dk_29 (dk_at dksX7_all_3 3 rfl rfl)
theorem dX7_all_74 : decode cX7_all 74 = .ok (.ifCond .eq 7, 3) := dk_153 0 7 (dk_at dksX7_all_3 4 rfl rfl)
theorem dX7_all_77 : decode cX7_all 77 = .ok (.aload_n 2, 1) := dk_44 (dk_at dksX7_all_3 7 rfl rfl)
theorem dX7_all_78 : decode cX7_all 78 = .ok (.goto 4, 3) := dk_167 0 4 (dk_at dksX7_all_3 8 rfl rfl)
theorem dX7_all_81 : decode cX7_all 81 = .ok (.aconst_null, 1) := dk_1 (dk_at dksX7_all_3 11 rfl rfl)
theorem dX7_all_82 : decode cX7_all 82 = .ok (.areturn, 1) := dk_176 (dk_at dksX7_all_3 12 rfl rfl)
abbrev cX7_steps : ByteArray := prog_2_method_8_code
def yX7_steps : MethodName := ⟨RX7, "steps", "(LDrawerRing$Ring;LDrawerRing$Ring;[LDrawerRing$Item;)I"⟩
def dkwX7_steps_5 : List UInt8 := [44, 180, 0, 60, 181, 0, 60, 21, 5, 153, 0, 8, 21, 4, 167, 0, 4, 2, 172]
abbrev dktX7_steps_5 : List UInt8 := dkwX7_steps_5 ++ []
def dkwX7_steps_4 : List UInt8 := [100, 79, 132, 6, 1, 167, 255, 166, 44, 180, 0, 63, 3, 43, 180, 0, 63, 3, 16, 12, 184, 0, 69, 43]
abbrev dktX7_steps_4 : List UInt8 := dkwX7_steps_4 ++ dktX7_steps_5
def dkwX7_steps_3 : List UInt8 := [25, 7, 180, 0, 43, 181, 0, 60, 43, 180, 0, 63, 25, 7, 180, 0, 43, 92, 46, 25, 7, 180, 0, 66]
abbrev dktX7_steps_3 : List UInt8 := dkwX7_steps_3 ++ dktX7_steps_4
def dkwX7_steps_2 : List UInt8 := [16, 99, 159, 0, 7, 4, 167, 0, 4, 3, 54, 5, 21, 4, 21, 8, 184, 0, 51, 96, 54, 4, 43]
abbrev dktX7_steps_2 : List UInt8 := dkwX7_steps_2 ++ dktX7_steps_3
def dkwX7_steps_1 : List UInt8 := [42, 180, 0, 15, 21, 6, 46, 50, 58, 7, 43, 25, 7, 180, 0, 43, 182, 0, 48, 54, 8, 21, 8]
abbrev dktX7_steps_1 : List UInt8 := dkwX7_steps_1 ++ dktX7_steps_2
def dkwX7_steps_0 : List UInt8 := [3, 54, 4, 4, 54, 5, 3, 54, 6, 21, 6, 42, 180, 0, 21, 162, 0, 87, 21, 5, 153, 0, 82, 45]
abbrev dktX7_steps_0 : List UInt8 := dkwX7_steps_0 ++ dktX7_steps_1
theorem dksX7_steps_0 : cX7_steps.data.toList.drop 0 = dktX7_steps_0 := by decide +kernel
theorem dksX7_steps_1 : cX7_steps.data.toList.drop 24 = dktX7_steps_1 := dk_seg dksX7_steps_0 24 rfl rfl
theorem dksX7_steps_2 : cX7_steps.data.toList.drop 47 = dktX7_steps_2 := dk_seg dksX7_steps_1 23 rfl rfl
theorem dksX7_steps_3 : cX7_steps.data.toList.drop 70 = dktX7_steps_3 := dk_seg dksX7_steps_2 23 rfl rfl
theorem dksX7_steps_4 : cX7_steps.data.toList.drop 94 = dktX7_steps_4 := dk_seg dksX7_steps_3 24 rfl rfl
theorem dksX7_steps_5 : cX7_steps.data.toList.drop 118 = dktX7_steps_5 := dk_seg dksX7_steps_4 24 rfl rfl
theorem dX7_steps_0 : decode cX7_steps 0 = .ok (.iconst 0, 1) := dk_3 (dk_at dksX7_steps_0 0 rfl rfl)
theorem dX7_steps_1 : decode cX7_steps 1 = .ok (.istore 4, 2) := dk_54 4 (dk_at dksX7_steps_0 1 rfl rfl)
theorem dX7_steps_3 : decode cX7_steps 3 = .ok (.iconst 1, 1) := dk_4 (dk_at dksX7_steps_0 3 rfl rfl)
theorem dX7_steps_4 : decode cX7_steps 4 = .ok (.istore 5, 2) := dk_54 5 (dk_at dksX7_steps_0 4 rfl rfl)
theorem dX7_steps_6 : decode cX7_steps 6 = .ok (.iconst 0, 1) := dk_3 (dk_at dksX7_steps_0 6 rfl rfl)
theorem dX7_steps_7 : decode cX7_steps 7 = .ok (.istore 6, 2) := dk_54 6 (dk_at dksX7_steps_0 7 rfl rfl)
theorem dX7_steps_9 : decode cX7_steps 9 = .ok (.iload 6, 2) := dk_21 6 (dk_at dksX7_steps_0 9 rfl rfl)
theorem dX7_steps_11 : decode cX7_steps 11 = .ok (.aload_n 0, 1) := dk_42 (dk_at dksX7_steps_0 11 rfl rfl)
theorem dX7_steps_12 : decode cX7_steps 12 = .ok (.getfield 21, 3) := dk_180 0 21 (dk_at dksX7_steps_0 12 rfl rfl)
theorem dX7_steps_15 : decode cX7_steps 15 = .ok (.if_icmp .ge 87, 3) := dk_162 0 87 (dk_at dksX7_steps_0 15 rfl rfl)
theorem dX7_steps_18 : decode cX7_steps 18 = .ok (.iload 5, 2) := dk_21 5 (dk_at dksX7_steps_0 18 rfl rfl)
theorem dX7_steps_20 : decode cX7_steps 20 = .ok (.ifCond .eq 82, 3) := dk_153 0 82 (dk_at dksX7_steps_0 20 rfl rfl)
theorem dX7_steps_23 : decode cX7_steps 23 = .ok (.aload_n 3, 1) := dk_45 (dk_at dksX7_steps_0 23 rfl rfl)
theorem dX7_steps_24 : decode cX7_steps 24 = .ok (.aload_n 0, 1) := dk_42 (dk_at dksX7_steps_1 0 rfl rfl)
theorem dX7_steps_25 : decode cX7_steps 25 = .ok (.getfield 15, 3) := dk_180 0 15 (dk_at dksX7_steps_1 1 rfl rfl)
theorem dX7_steps_28 : decode cX7_steps 28 = .ok (.iload 6, 2) := dk_21 6 (dk_at dksX7_steps_1 4 rfl rfl)
theorem dX7_steps_30 : decode cX7_steps 30 = .ok (.iaload, 1) := dk_46 (dk_at dksX7_steps_1 6 rfl rfl)
theorem dX7_steps_31 : decode cX7_steps 31 = .ok (.aaload, 1) := dk_50 (dk_at dksX7_steps_1 7 rfl rfl)
theorem dX7_steps_32 : decode cX7_steps 32 = .ok (.astore 7, 2) := dk_58 7 (dk_at dksX7_steps_1 8 rfl rfl)
theorem dX7_steps_34 : decode cX7_steps 34 = .ok (.aload_n 1, 1) := dk_43 (dk_at dksX7_steps_1 10 rfl rfl)
theorem dX7_steps_35 : decode cX7_steps 35 = .ok (.aload 7, 2) := dk_25 7 (dk_at dksX7_steps_1 11 rfl rfl)
theorem dX7_steps_37 : decode cX7_steps 37 = .ok (.getfield 43, 3) := dk_180 0 43 (dk_at dksX7_steps_1 13 rfl rfl)
theorem dX7_steps_40 : decode cX7_steps 40 = .ok (.invokevirtual 48, 3) := dk_182 0 48 (dk_at dksX7_steps_1 16 rfl rfl)
theorem dX7_steps_43 : decode cX7_steps 43 = .ok (.istore 8, 2) := dk_54 8 (dk_at dksX7_steps_1 19 rfl rfl)
theorem dX7_steps_45 : decode cX7_steps 45 = .ok (.iload 8, 2) := dk_21 8 (dk_at dksX7_steps_1 21 rfl rfl)
theorem dX7_steps_47 : decode cX7_steps 47 = .ok (.bipush 99, 2) := dk_16 99 (dk_at dksX7_steps_2 0 rfl rfl)
theorem dX7_steps_49 : decode cX7_steps 49 = .ok (.if_icmp .eq 7, 3) := dk_159 0 7 (dk_at dksX7_steps_2 2 rfl rfl)
theorem dX7_steps_52 : decode cX7_steps 52 = .ok (.iconst 1, 1) := dk_4 (dk_at dksX7_steps_2 5 rfl rfl)
theorem dX7_steps_53 : decode cX7_steps 53 = .ok (.goto 4, 3) := dk_167 0 4 (dk_at dksX7_steps_2 6 rfl rfl)
theorem dX7_steps_56 : decode cX7_steps 56 = .ok (.iconst 0, 1) := dk_3 (dk_at dksX7_steps_2 9 rfl rfl)
theorem dX7_steps_57 : decode cX7_steps 57 = .ok (.istore 5, 2) := dk_54 5 (dk_at dksX7_steps_2 10 rfl rfl)
theorem dX7_steps_59 : decode cX7_steps 59 = .ok (.iload 4, 2) := dk_21 4 (dk_at dksX7_steps_2 12 rfl rfl)
theorem dX7_steps_61 : decode cX7_steps 61 = .ok (.iload 8, 2) := dk_21 8 (dk_at dksX7_steps_2 14 rfl rfl)
theorem dX7_steps_63 : decode cX7_steps 63 = .ok (.invokestatic 51, 3) := dk_184 0 51 (dk_at dksX7_steps_2 16 rfl rfl)
theorem dX7_steps_66 : decode cX7_steps 66 = .ok (.iadd, 1) := dk_96 (dk_at dksX7_steps_2 19 rfl rfl)
theorem dX7_steps_67 : decode cX7_steps 67 = .ok (.istore 4, 2) := dk_54 4 (dk_at dksX7_steps_2 20 rfl rfl)
theorem dX7_steps_69 : decode cX7_steps 69 = .ok (.aload_n 1, 1) := dk_43 (dk_at dksX7_steps_2 22 rfl rfl)
theorem dX7_steps_70 : decode cX7_steps 70 = .ok (.aload 7, 2) := dk_25 7 (dk_at dksX7_steps_3 0 rfl rfl)
theorem dX7_steps_72 : decode cX7_steps 72 = .ok (.getfield 43, 3) := dk_180 0 43 (dk_at dksX7_steps_3 2 rfl rfl)
theorem dX7_steps_75 : decode cX7_steps 75 = .ok (.putfield 60, 3) := dk_181 0 60 (dk_at dksX7_steps_3 5 rfl rfl)
theorem dX7_steps_78 : decode cX7_steps 78 = .ok (.aload_n 1, 1) := dk_43 (dk_at dksX7_steps_3 8 rfl rfl)
theorem dX7_steps_79 : decode cX7_steps 79 = .ok (.getfield 63, 3) := dk_180 0 63 (dk_at dksX7_steps_3 9 rfl rfl)
theorem dX7_steps_82 : decode cX7_steps 82 = .ok (.aload 7, 2) := dk_25 7 (dk_at dksX7_steps_3 12 rfl rfl)
theorem dX7_steps_84 : decode cX7_steps 84 = .ok (.getfield 43, 3) := dk_180 0 43 (dk_at dksX7_steps_3 14 rfl rfl)
theorem dX7_steps_87 : decode cX7_steps 87 = .ok (.dup2, 1) := dk_92 (dk_at dksX7_steps_3 17 rfl rfl)
theorem dX7_steps_88 : decode cX7_steps 88 = .ok (.iaload, 1) := dk_46 (dk_at dksX7_steps_3 18 rfl rfl)
theorem dX7_steps_89 : decode cX7_steps 89 = .ok (.aload 7, 2) := dk_25 7 (dk_at dksX7_steps_3 19 rfl rfl)
theorem dX7_steps_91 : decode cX7_steps 91 = .ok (.getfield 66, 3) := dk_180 0 66 (dk_at dksX7_steps_3 21 rfl rfl)
theorem dX7_steps_94 : decode cX7_steps 94 = .ok (.isub, 1) := dk_100 (dk_at dksX7_steps_4 0 rfl rfl)
theorem dX7_steps_95 : decode cX7_steps 95 = .ok (.iastore, 1) := dk_79 (dk_at dksX7_steps_4 1 rfl rfl)
theorem dX7_steps_96 : decode cX7_steps 96 = .ok (.iinc 6 1, 3) := dk_132 6 1 (dk_at dksX7_steps_4 2 rfl rfl)
theorem dX7_steps_99 : decode cX7_steps 99 = .ok (.goto (-90), 3) := dk_167 255 166 (dk_at dksX7_steps_4 5 rfl rfl)
theorem dX7_steps_102 : decode cX7_steps 102 = .ok (.aload_n 2, 1) := dk_44 (dk_at dksX7_steps_4 8 rfl rfl)
theorem dX7_steps_103 : decode cX7_steps 103 = .ok (.getfield 63, 3) := dk_180 0 63 (dk_at dksX7_steps_4 9 rfl rfl)
theorem dX7_steps_106 : decode cX7_steps 106 = .ok (.iconst 0, 1) := dk_3 (dk_at dksX7_steps_4 12 rfl rfl)
theorem dX7_steps_107 : decode cX7_steps 107 = .ok (.aload_n 1, 1) := dk_43 (dk_at dksX7_steps_4 13 rfl rfl)
theorem dX7_steps_108 : decode cX7_steps 108 = .ok (.getfield 63, 3) := dk_180 0 63 (dk_at dksX7_steps_4 14 rfl rfl)
theorem dX7_steps_111 : decode cX7_steps 111 = .ok (.iconst 0, 1) := dk_3 (dk_at dksX7_steps_4 17 rfl rfl)
theorem dX7_steps_112 : decode cX7_steps 112 = .ok (.bipush 12, 2) := dk_16 12 (dk_at dksX7_steps_4 18 rfl rfl)
theorem dX7_steps_114 : decode cX7_steps 114 = .ok (.invokestatic 69, 3) := dk_184 0 69 (dk_at dksX7_steps_4 20 rfl rfl)
theorem dX7_steps_117 : decode cX7_steps 117 = .ok (.aload_n 1, 1) := dk_43 (dk_at dksX7_steps_4 23 rfl rfl)
theorem dX7_steps_118 : decode cX7_steps 118 = .ok (.aload_n 2, 1) := dk_44 (dk_at dksX7_steps_5 0 rfl rfl)
theorem dX7_steps_119 : decode cX7_steps 119 = .ok (.getfield 60, 3) := dk_180 0 60 (dk_at dksX7_steps_5 1 rfl rfl)
theorem dX7_steps_122 : decode cX7_steps 122 = .ok (.putfield 60, 3) := dk_181 0 60 (dk_at dksX7_steps_5 4 rfl rfl)
theorem dX7_steps_125 : decode cX7_steps 125 = .ok (.iload 5, 2) := dk_21 5 (dk_at dksX7_steps_5 7 rfl rfl)
theorem dX7_steps_127 : decode cX7_steps 127 = .ok (.ifCond .eq 8, 3) := dk_153 0 8 (dk_at dksX7_steps_5 9 rfl rfl)
theorem dX7_steps_130 : decode cX7_steps 130 = .ok (.iload 4, 2) := dk_21 4 (dk_at dksX7_steps_5 12 rfl rfl)
theorem dX7_steps_132 : decode cX7_steps 132 = .ok (.goto 4, 3) := dk_167 0 4 (dk_at dksX7_steps_5 14 rfl rfl)
theorem dX7_steps_135 : decode cX7_steps 135 = .ok (.iconst (-1), 1) := dk_2 (dk_at dksX7_steps_5 17 rfl rfl)
theorem dX7_steps_136 : decode cX7_steps 136 = .ok (.ireturn, 1) := dk_172 (dk_at dksX7_steps_5 18 rfl rfl)
abbrev cX7_next : ByteArray := prog_2_method_6_code
def yX7_next : MethodName := ⟨RX7, "next", "()Z"⟩
def dkwX7_next_4 : List UInt8 := [21, 4, 182, 0, 56, 132, 3, 1, 132, 4, 255, 167, 255, 237, 4, 172]
abbrev dktX7_next_4 : List UInt8 := dkwX7_next_4 ++ []
def dkwX7_next_3 : List UInt8 := [182, 0, 56, 27, 4, 96, 62, 42, 180, 0, 21, 4, 100, 54, 4, 29, 21, 4, 162, 0, 19, 42, 29]
abbrev dktX7_next_3 : List UInt8 := dkwX7_next_3 ++ dktX7_next_4
def dkwX7_next_2 : List UInt8 := [180, 0, 15, 28, 46, 42, 180, 0, 15, 27, 46, 162, 0, 9, 132, 2, 255, 167, 255, 238, 42, 27, 28]
abbrev dktX7_next_2 : List UInt8 := dkwX7_next_2 ++ dktX7_next_3
def dkwX7_next_1 : List UInt8 := [46, 164, 0, 9, 132, 1, 255, 167, 255, 232, 27, 156, 0, 5, 3, 172, 42, 180, 0, 21, 4, 100, 61, 42]
abbrev dktX7_next_1 : List UInt8 := dkwX7_next_1 ++ dktX7_next_2
def dkwX7_next_0 : List UInt8 := [42, 180, 0, 21, 5, 100, 60, 27, 155, 0, 26, 42, 180, 0, 15, 27, 46, 42, 180, 0, 15, 27, 4, 96]
abbrev dktX7_next_0 : List UInt8 := dkwX7_next_0 ++ dktX7_next_1
theorem dksX7_next_0 : cX7_next.data.toList.drop 0 = dktX7_next_0 := by decide +kernel
theorem dksX7_next_1 : cX7_next.data.toList.drop 24 = dktX7_next_1 := dk_seg dksX7_next_0 24 rfl rfl
theorem dksX7_next_2 : cX7_next.data.toList.drop 48 = dktX7_next_2 := dk_seg dksX7_next_1 24 rfl rfl
theorem dksX7_next_3 : cX7_next.data.toList.drop 71 = dktX7_next_3 := dk_seg dksX7_next_2 23 rfl rfl
theorem dksX7_next_4 : cX7_next.data.toList.drop 94 = dktX7_next_4 := dk_seg dksX7_next_3 23 rfl rfl
theorem dX7_next_0 : decode cX7_next 0 = .ok (.aload_n 0, 1) := dk_42 (dk_at dksX7_next_0 0 rfl rfl)
theorem dX7_next_1 : decode cX7_next 1 = .ok (.getfield 21, 3) := dk_180 0 21 (dk_at dksX7_next_0 1 rfl rfl)
theorem dX7_next_4 : decode cX7_next 4 = .ok (.iconst 2, 1) := dk_5 (dk_at dksX7_next_0 4 rfl rfl)
theorem dX7_next_5 : decode cX7_next 5 = .ok (.isub, 1) := dk_100 (dk_at dksX7_next_0 5 rfl rfl)
theorem dX7_next_6 : decode cX7_next 6 = .ok (.istore_n 1, 1) := dk_60 (dk_at dksX7_next_0 6 rfl rfl)
theorem dX7_next_7 : decode cX7_next 7 = .ok (.iload_n 1, 1) := dk_27 (dk_at dksX7_next_0 7 rfl rfl)
theorem dX7_next_8 : decode cX7_next 8 = .ok (.ifCond .lt 26, 3) := dk_155 0 26 (dk_at dksX7_next_0 8 rfl rfl)
theorem dX7_next_11 : decode cX7_next 11 = .ok (.aload_n 0, 1) := dk_42 (dk_at dksX7_next_0 11 rfl rfl)
theorem dX7_next_12 : decode cX7_next 12 = .ok (.getfield 15, 3) := dk_180 0 15 (dk_at dksX7_next_0 12 rfl rfl)
theorem dX7_next_15 : decode cX7_next 15 = .ok (.iload_n 1, 1) := dk_27 (dk_at dksX7_next_0 15 rfl rfl)
theorem dX7_next_16 : decode cX7_next 16 = .ok (.iaload, 1) := dk_46 (dk_at dksX7_next_0 16 rfl rfl)
theorem dX7_next_17 : decode cX7_next 17 = .ok (.aload_n 0, 1) := dk_42 (dk_at dksX7_next_0 17 rfl rfl)
theorem dX7_next_18 : decode cX7_next 18 = .ok (.getfield 15, 3) := dk_180 0 15 (dk_at dksX7_next_0 18 rfl rfl)
theorem dX7_next_21 : decode cX7_next 21 = .ok (.iload_n 1, 1) := dk_27 (dk_at dksX7_next_0 21 rfl rfl)
theorem dX7_next_22 : decode cX7_next 22 = .ok (.iconst 1, 1) := dk_4 (dk_at dksX7_next_0 22 rfl rfl)
theorem dX7_next_23 : decode cX7_next 23 = .ok (.iadd, 1) := dk_96 (dk_at dksX7_next_0 23 rfl rfl)
theorem dX7_next_24 : decode cX7_next 24 = .ok (.iaload, 1) := dk_46 (dk_at dksX7_next_1 0 rfl rfl)
theorem dX7_next_25 : decode cX7_next 25 = .ok (.if_icmp .le 9, 3) := dk_164 0 9 (dk_at dksX7_next_1 1 rfl rfl)
theorem dX7_next_28 : decode cX7_next 28 = .ok (.iinc 1 (-1), 3) := dk_132 1 255 (dk_at dksX7_next_1 4 rfl rfl)
theorem dX7_next_31 : decode cX7_next 31 = .ok (.goto (-24), 3) := dk_167 255 232 (dk_at dksX7_next_1 7 rfl rfl)
theorem dX7_next_34 : decode cX7_next 34 = .ok (.iload_n 1, 1) := dk_27 (dk_at dksX7_next_1 10 rfl rfl)
theorem dX7_next_35 : decode cX7_next 35 = .ok (.ifCond .ge 5, 3) := dk_156 0 5 (dk_at dksX7_next_1 11 rfl rfl)
theorem dX7_next_38 : decode cX7_next 38 = .ok (.iconst 0, 1) := dk_3 (dk_at dksX7_next_1 14 rfl rfl)
theorem dX7_next_39 : decode cX7_next 39 = .ok (.ireturn, 1) := dk_172 (dk_at dksX7_next_1 15 rfl rfl)
theorem dX7_next_40 : decode cX7_next 40 = .ok (.aload_n 0, 1) := dk_42 (dk_at dksX7_next_1 16 rfl rfl)
theorem dX7_next_41 : decode cX7_next 41 = .ok (.getfield 21, 3) := dk_180 0 21 (dk_at dksX7_next_1 17 rfl rfl)
theorem dX7_next_44 : decode cX7_next 44 = .ok (.iconst 1, 1) := dk_4 (dk_at dksX7_next_1 20 rfl rfl)
theorem dX7_next_45 : decode cX7_next 45 = .ok (.isub, 1) := dk_100 (dk_at dksX7_next_1 21 rfl rfl)
theorem dX7_next_46 : decode cX7_next 46 = .ok (.istore_n 2, 1) := dk_61 (dk_at dksX7_next_1 22 rfl rfl)
theorem dX7_next_47 : decode cX7_next 47 = .ok (.aload_n 0, 1) := dk_42 (dk_at dksX7_next_1 23 rfl rfl)
theorem dX7_next_48 : decode cX7_next 48 = .ok (.getfield 15, 3) := dk_180 0 15 (dk_at dksX7_next_2 0 rfl rfl)
theorem dX7_next_51 : decode cX7_next 51 = .ok (.iload_n 2, 1) := dk_28 (dk_at dksX7_next_2 3 rfl rfl)
theorem dX7_next_52 : decode cX7_next 52 = .ok (.iaload, 1) := dk_46 (dk_at dksX7_next_2 4 rfl rfl)
theorem dX7_next_53 : decode cX7_next 53 = .ok (.aload_n 0, 1) := dk_42 (dk_at dksX7_next_2 5 rfl rfl)
theorem dX7_next_54 : decode cX7_next 54 = .ok (.getfield 15, 3) := dk_180 0 15 (dk_at dksX7_next_2 6 rfl rfl)
theorem dX7_next_57 : decode cX7_next 57 = .ok (.iload_n 1, 1) := dk_27 (dk_at dksX7_next_2 9 rfl rfl)
theorem dX7_next_58 : decode cX7_next 58 = .ok (.iaload, 1) := dk_46 (dk_at dksX7_next_2 10 rfl rfl)
theorem dX7_next_59 : decode cX7_next 59 = .ok (.if_icmp .ge 9, 3) := dk_162 0 9 (dk_at dksX7_next_2 11 rfl rfl)
theorem dX7_next_62 : decode cX7_next 62 = .ok (.iinc 2 (-1), 3) := dk_132 2 255 (dk_at dksX7_next_2 14 rfl rfl)
theorem dX7_next_65 : decode cX7_next 65 = .ok (.goto (-18), 3) := dk_167 255 238 (dk_at dksX7_next_2 17 rfl rfl)
theorem dX7_next_68 : decode cX7_next 68 = .ok (.aload_n 0, 1) := dk_42 (dk_at dksX7_next_2 20 rfl rfl)
theorem dX7_next_69 : decode cX7_next 69 = .ok (.iload_n 1, 1) := dk_27 (dk_at dksX7_next_2 21 rfl rfl)
theorem dX7_next_70 : decode cX7_next 70 = .ok (.iload_n 2, 1) := dk_28 (dk_at dksX7_next_2 22 rfl rfl)
theorem dX7_next_71 : decode cX7_next 71 = .ok (.invokevirtual 56, 3) := dk_182 0 56 (dk_at dksX7_next_3 0 rfl rfl)
theorem dX7_next_74 : decode cX7_next 74 = .ok (.iload_n 1, 1) := dk_27 (dk_at dksX7_next_3 3 rfl rfl)
theorem dX7_next_75 : decode cX7_next 75 = .ok (.iconst 1, 1) := dk_4 (dk_at dksX7_next_3 4 rfl rfl)
theorem dX7_next_76 : decode cX7_next 76 = .ok (.iadd, 1) := dk_96 (dk_at dksX7_next_3 5 rfl rfl)
theorem dX7_next_77 : decode cX7_next 77 = .ok (.istore_n 3, 1) := dk_62 (dk_at dksX7_next_3 6 rfl rfl)
theorem dX7_next_78 : decode cX7_next 78 = .ok (.aload_n 0, 1) := dk_42 (dk_at dksX7_next_3 7 rfl rfl)
theorem dX7_next_79 : decode cX7_next 79 = .ok (.getfield 21, 3) := dk_180 0 21 (dk_at dksX7_next_3 8 rfl rfl)
theorem dX7_next_82 : decode cX7_next 82 = .ok (.iconst 1, 1) := dk_4 (dk_at dksX7_next_3 11 rfl rfl)
theorem dX7_next_83 : decode cX7_next 83 = .ok (.isub, 1) := dk_100 (dk_at dksX7_next_3 12 rfl rfl)
theorem dX7_next_84 : decode cX7_next 84 = .ok (.istore 4, 2) := dk_54 4 (dk_at dksX7_next_3 13 rfl rfl)
theorem dX7_next_86 : decode cX7_next 86 = .ok (.iload_n 3, 1) := dk_29 (dk_at dksX7_next_3 15 rfl rfl)
theorem dX7_next_87 : decode cX7_next 87 = .ok (.iload 4, 2) := dk_21 4 (dk_at dksX7_next_3 16 rfl rfl)
theorem dX7_next_89 : decode cX7_next 89 = .ok (.if_icmp .ge 19, 3) := dk_162 0 19 (dk_at dksX7_next_3 18 rfl rfl)
theorem dX7_next_92 : decode cX7_next 92 = .ok (.aload_n 0, 1) := dk_42 (dk_at dksX7_next_3 21 rfl rfl)
theorem dX7_next_93 : decode cX7_next 93 = .ok (.iload_n 3, 1) := dk_29 (dk_at dksX7_next_3 22 rfl rfl)
theorem dX7_next_94 : decode cX7_next 94 = .ok (.iload 4, 2) := dk_21 4 (dk_at dksX7_next_4 0 rfl rfl)
theorem dX7_next_96 : decode cX7_next 96 = .ok (.invokevirtual 56, 3) := dk_182 0 56 (dk_at dksX7_next_4 2 rfl rfl)
theorem dX7_next_99 : decode cX7_next 99 = .ok (.iinc 3 1, 3) := dk_132 3 1 (dk_at dksX7_next_4 5 rfl rfl)
theorem dX7_next_102 : decode cX7_next 102 = .ok (.iinc 4 (-1), 3) := dk_132 4 255 (dk_at dksX7_next_4 8 rfl rfl)
theorem dX7_next_105 : decode cX7_next 105 = .ok (.goto (-19), 3) := dk_167 255 237 (dk_at dksX7_next_4 11 rfl rfl)
theorem dX7_next_108 : decode cX7_next 108 = .ok (.iconst 1, 1) := dk_4 (dk_at dksX7_next_4 14 rfl rfl)
theorem dX7_next_109 : decode cX7_next 109 = .ok (.ireturn, 1) := dk_172 (dk_at dksX7_next_4 15 rfl rfl)
abbrev cX7_swap : ByteArray := prog_2_method_7_code
def yX7_swap : MethodName := ⟨RX7, "swap", "(II)V"⟩
def dkwX7_swap_1 : List UInt8 := [29, 79, 177]
abbrev dktX7_swap_1 : List UInt8 := dkwX7_swap_1 ++ []
def dkwX7_swap_0 : List UInt8 := [42, 180, 0, 15, 27, 46, 62, 42, 180, 0, 15, 27, 42, 180, 0, 15, 28, 46, 79, 42, 180, 0, 15, 28]
abbrev dktX7_swap_0 : List UInt8 := dkwX7_swap_0 ++ dktX7_swap_1
theorem dksX7_swap_0 : cX7_swap.data.toList.drop 0 = dktX7_swap_0 := by decide +kernel
theorem dksX7_swap_1 : cX7_swap.data.toList.drop 24 = dktX7_swap_1 := dk_seg dksX7_swap_0 24 rfl rfl
theorem dX7_swap_0 : decode cX7_swap 0 = .ok (.aload_n 0, 1) := dk_42 (dk_at dksX7_swap_0 0 rfl rfl)
theorem dX7_swap_1 : decode cX7_swap 1 = .ok (.getfield 15, 3) := dk_180 0 15 (dk_at dksX7_swap_0 1 rfl rfl)
theorem dX7_swap_4 : decode cX7_swap 4 = .ok (.iload_n 1, 1) := dk_27 (dk_at dksX7_swap_0 4 rfl rfl)
theorem dX7_swap_5 : decode cX7_swap 5 = .ok (.iaload, 1) := dk_46 (dk_at dksX7_swap_0 5 rfl rfl)
theorem dX7_swap_6 : decode cX7_swap 6 = .ok (.istore_n 3, 1) := dk_62 (dk_at dksX7_swap_0 6 rfl rfl)
theorem dX7_swap_7 : decode cX7_swap 7 = .ok (.aload_n 0, 1) := dk_42 (dk_at dksX7_swap_0 7 rfl rfl)
theorem dX7_swap_8 : decode cX7_swap 8 = .ok (.getfield 15, 3) := dk_180 0 15 (dk_at dksX7_swap_0 8 rfl rfl)
theorem dX7_swap_11 : decode cX7_swap 11 = .ok (.iload_n 1, 1) := dk_27 (dk_at dksX7_swap_0 11 rfl rfl)
theorem dX7_swap_12 : decode cX7_swap 12 = .ok (.aload_n 0, 1) := dk_42 (dk_at dksX7_swap_0 12 rfl rfl)
theorem dX7_swap_13 : decode cX7_swap 13 = .ok (.getfield 15, 3) := dk_180 0 15 (dk_at dksX7_swap_0 13 rfl rfl)
theorem dX7_swap_16 : decode cX7_swap 16 = .ok (.iload_n 2, 1) := dk_28 (dk_at dksX7_swap_0 16 rfl rfl)
theorem dX7_swap_17 : decode cX7_swap 17 = .ok (.iaload, 1) := dk_46 (dk_at dksX7_swap_0 17 rfl rfl)
theorem dX7_swap_18 : decode cX7_swap 18 = .ok (.iastore, 1) := dk_79 (dk_at dksX7_swap_0 18 rfl rfl)
theorem dX7_swap_19 : decode cX7_swap 19 = .ok (.aload_n 0, 1) := dk_42 (dk_at dksX7_swap_0 19 rfl rfl)
theorem dX7_swap_20 : decode cX7_swap 20 = .ok (.getfield 15, 3) := dk_180 0 15 (dk_at dksX7_swap_0 20 rfl rfl)
theorem dX7_swap_23 : decode cX7_swap 23 = .ok (.iload_n 2, 1) := dk_28 (dk_at dksX7_swap_0 23 rfl rfl)
theorem dX7_swap_24 : decode cX7_swap 24 = .ok (.iload_n 3, 1) := dk_29 (dk_at dksX7_swap_1 0 rfl rfl)
theorem dX7_swap_25 : decode cX7_swap 25 = .ok (.iastore, 1) := dk_79 (dk_at dksX7_swap_1 1 rfl rfl)
theorem dX7_swap_26 : decode cX7_swap 26 = .ok (.return_, 1) := dk_177 (dk_at dksX7_swap_1 2 rfl rfl)
theorem q110 : (Jvm.Cond.initialized "DrawerRing$Batch") ∈ lw_all := lw_g (lw_at lw_m1 39 rfl) rfl
theorem q188 : (Jvm.Cond.fieldLinkNest "DrawerRing$Batch" (63 : Nat) "DrawerRing$Ring" "loads" "[I" "DrawerRing") ∈ lw_tbl := lw_at lw_m1 117 rfl
theorem q191 : (Jvm.Cond.fieldLinkNest "DrawerRing$Batch" (75 : Nat) "DrawerRing$Ring" "areJammed" "[Z" "DrawerRing") ∈ lw_tbl := lw_at lw_m1 120 rfl
theorem q196 : (Jvm.Cond.fieldLinkNest "DrawerRing$Batch" (60 : Nat) "DrawerRing$Ring" "window" "I" "DrawerRing") ∈ lw_tbl := lw_at lw_m1 125 rfl
theorem q647 : (Jvm.Cond.instantiable "DrawerRing$Batch" (4 : Nat)) ∈ lw_all := lw_g (lw_at lw_m3 96 rfl) rfl
theorem q649 : (Jvm.Cond.instanceMethod ({ cls := "DrawerRing$Batch", name := "<init>", desc := "()V" } : Jvm.MethodName)) ∈ lw_all := lw_g (lw_at lw_m3 98 rfl) rfl
theorem q650 : (Jvm.Cond.code ({ cls := "DrawerRing$Batch", name := "<init>", desc := "()V" } : Jvm.MethodName) prog_2_method_1_code (1 : Nat) (Option.none : Option Jvm.ClassFile.FieldType)) ∈ lw_all := lw_g (lw_at lw_m3 99 rfl) rfl
theorem q651 : (Jvm.Cond.methodLink "DrawerRing$Batch" (3 : Nat) ({ cls := "java/lang/Object", name := "<init>", desc := "()V" } : Jvm.MethodName)) ∈ lw_all := lw_g (lw_at lw_m3 100 rfl) rfl
theorem q652 : (Jvm.Cond.fieldLink "DrawerRing$Batch" (9 : Nat) "DrawerRing$Batch" "numbers" "[I") ∈ lw_all := lw_g (lw_at lw_m3 101 rfl) rfl
theorem q654 : (Jvm.Cond.fieldLink "DrawerRing$Batch" (15 : Nat) "DrawerRing$Batch" "order" "[I") ∈ lw_all := lw_g (lw_at lw_m3 103 rfl) rfl
theorem q655 : (Jvm.Cond.fieldLink "DrawerRing$Batch" (18 : Nat) "DrawerRing$Batch" "best" "[I") ∈ lw_all := lw_g (lw_at lw_m3 104 rfl) rfl
theorem q656 : (Jvm.Cond.fieldLink "DrawerRing$Batch" (21 : Nat) "DrawerRing$Batch" "many" "I") ∈ lw_all := lw_g (lw_at lw_m3 105 rfl) rfl
theorem q658 : (Jvm.Cond.laysFinal "DrawerRing$Batch" "DrawerRing$Batch" "numbers" "[I") ∈ lw_all := lw_g (lw_at lw_m3 107 rfl) rfl
theorem q659 : (Jvm.Cond.soleField "DrawerRing$Batch" "numbers") ∈ lw_all := lw_g (lw_at lw_m3 108 rfl) rfl
theorem q660 : (Jvm.Cond.laysFinal "DrawerRing$Batch" "DrawerRing$Batch" "order" "[I") ∈ lw_all := lw_g (lw_at lw_m3 109 rfl) rfl
theorem q661 : (Jvm.Cond.soleField "DrawerRing$Batch" "order") ∈ lw_all := lw_g (lw_at lw_m3 110 rfl) rfl
theorem q662 : (Jvm.Cond.laysFinal "DrawerRing$Batch" "DrawerRing$Batch" "best" "[I") ∈ lw_all := lw_g (lw_at lw_m3 111 rfl) rfl
theorem q663 : (Jvm.Cond.soleField "DrawerRing$Batch" "best") ∈ lw_all := lw_g (lw_at lw_m3 112 rfl) rfl
theorem q664 : (Jvm.Cond.lays "DrawerRing$Batch" "DrawerRing$Batch" "many" "I") ∈ lw_all := lw_g (lw_at lw_m3 113 rfl) rfl
theorem q665 : (Jvm.Cond.soleField "DrawerRing$Batch" "many") ∈ lw_all := lw_g (lw_at lw_m3 114 rfl) rfl
theorem q666 : (Jvm.Cond.superclass "DrawerRing$Batch" "java/lang/Object") ∈ lw_all := lw_g (lw_at lw_m3 115 rfl) rfl
theorem q712 : (Jvm.Cond.instanceMethod ({ cls := "DrawerRing$Batch", name := "has", desc := "(I)Z" } : Jvm.MethodName)) ∈ lw_all := lw_g (lw_at lw_m3 161 rfl) rfl
theorem q713 : (Jvm.Cond.selects "DrawerRing$Batch" ({ cls := "DrawerRing$Batch", name := "has", desc := "(I)Z" } : Jvm.MethodName) ({ cls := "DrawerRing$Batch", name := "has", desc := "(I)Z" } : Jvm.MethodName)) ∈ lw_all := lw_g (lw_at lw_m3 162 rfl) rfl
theorem q714 : (Jvm.Cond.code ({ cls := "DrawerRing$Batch", name := "has", desc := "(I)Z" } : Jvm.MethodName) prog_2_method_2_code (4 : Nat) (Option.some Jvm.ClassFile.FieldType.boolean)) ∈ lw_all := lw_g (lw_at lw_m3 163 rfl) rfl
theorem q758 : (Jvm.Cond.selects "DrawerRing$Batch" ({ cls := "java/lang/Object", name := "hashCode", desc := "()I" } : Jvm.MethodName) ({ cls := "java/lang/Object", name := "hashCode", desc := "()I" } : Jvm.MethodName)) ∈ lw_all := lw_g (lw_at lw_m3 207 rfl) rfl
theorem q840 : (Jvm.Cond.selects "DrawerRing$Batch" ({ cls := "java/lang/Object", name := "equals", desc := "(Ljava/lang/Object;)Z" } : Jvm.MethodName) ({ cls := "java/lang/Object", name := "equals", desc := "(Ljava/lang/Object;)Z" } : Jvm.MethodName)) ∈ lw_all := lw_g (lw_at lw_m4 49 rfl) rfl
theorem q887 : (Jvm.Cond.selects "DrawerRing$Batch" ({ cls := "java/lang/Object", name := "getClass", desc := "()Ljava/lang/Class;" } : Jvm.MethodName) ({ cls := "java/lang/Object", name := "getClass", desc := "()Ljava/lang/Class;" } : Jvm.MethodName)) ∈ lw_all := lw_g (lw_at lw_m4 96 rfl) rfl
theorem q1230 : (Jvm.Cond.fieldLinkNest "DrawerRing$Batch" (66 : Nat) "DrawerRing$Item" "weight" "I" "DrawerRing") ∈ lw_tbl := lw_at lw_m5 199 rfl
theorem q1234 : (Jvm.Cond.fieldLinkNest "DrawerRing$Batch" (43 : Nat) "DrawerRing$Item" "drawer" "I" "DrawerRing") ∈ lw_tbl := lw_at lw_m5 203 rfl
theorem q1422 : (Jvm.Cond.instanceMethod ({ cls := "DrawerRing$Batch", name := "pick", desc := "(LDrawerRing$Ring;LDrawerRing$Ring;I)I" } : Jvm.MethodName)) ∈ lw_all := lw_g (lw_at lw_m6 151 rfl) rfl
theorem q1423 : (Jvm.Cond.selects "DrawerRing$Batch" ({ cls := "DrawerRing$Batch", name := "pick", desc := "(LDrawerRing$Ring;LDrawerRing$Ring;I)I" } : Jvm.MethodName) ({ cls := "DrawerRing$Batch", name := "pick", desc := "(LDrawerRing$Ring;LDrawerRing$Ring;I)I" } : Jvm.MethodName)) ∈ lw_all := lw_g (lw_at lw_m6 152 rfl) rfl
theorem q1424 : (Jvm.Cond.code ({ cls := "DrawerRing$Batch", name := "pick", desc := "(LDrawerRing$Ring;LDrawerRing$Ring;I)I" } : Jvm.MethodName) prog_2_method_11_code (4 : Nat) (Option.some Jvm.ClassFile.FieldType.int)) ∈ lw_all := lw_g (lw_at lw_m6 153 rfl) rfl
theorem q1425 : (Jvm.Cond.methodLink "DrawerRing$Batch" (91 : Nat) ({ cls := "DrawerRing$Batch", name := "asTold", desc := "(LDrawerRing$Ring;)I" } : Jvm.MethodName)) ∈ lw_all := lw_g (lw_at lw_m6 154 rfl) rfl
theorem q1426 : (Jvm.Cond.privateMethod ({ cls := "DrawerRing$Batch", name := "asTold", desc := "(LDrawerRing$Ring;)I" } : Jvm.MethodName)) ∈ lw_tbl := lw_at lw_m6 155 rfl
theorem q1427 : (Jvm.Cond.instanceMethod ({ cls := "DrawerRing$Batch", name := "asTold", desc := "(LDrawerRing$Ring;)I" } : Jvm.MethodName)) ∈ lw_all := lw_g (lw_at lw_m6 156 rfl) rfl
theorem q1428 : (Jvm.Cond.code ({ cls := "DrawerRing$Batch", name := "asTold", desc := "(LDrawerRing$Ring;)I" } : Jvm.MethodName) prog_2_method_4_code (3 : Nat) (Option.some Jvm.ClassFile.FieldType.int)) ∈ lw_all := lw_g (lw_at lw_m6 157 rfl) rfl
theorem q1429 : (Jvm.Cond.methodLink "DrawerRing$Batch" (39 : Nat) ({ cls := "DrawerRing$Batch", name := "inOrder", desc := "(LDrawerRing$Ring;[I)I" } : Jvm.MethodName)) ∈ lw_all := lw_g (lw_at lw_m6 158 rfl) rfl
theorem q1430 : (Jvm.Cond.privateMethod ({ cls := "DrawerRing$Batch", name := "inOrder", desc := "(LDrawerRing$Ring;[I)I" } : Jvm.MethodName)) ∈ lw_tbl := lw_at lw_m6 159 rfl
theorem q1431 : (Jvm.Cond.instanceMethod ({ cls := "DrawerRing$Batch", name := "inOrder", desc := "(LDrawerRing$Ring;[I)I" } : Jvm.MethodName)) ∈ lw_all := lw_g (lw_at lw_m6 160 rfl) rfl
theorem q1432 : (Jvm.Cond.code ({ cls := "DrawerRing$Batch", name := "inOrder", desc := "(LDrawerRing$Ring;[I)I" } : Jvm.MethodName) prog_2_method_3_code (4 : Nat) (Option.some Jvm.ClassFile.FieldType.int)) ∈ lw_all := lw_g (lw_at lw_m6 161 rfl) rfl
theorem q1433 : (Jvm.Cond.methodLink "DrawerRing$Batch" (25 : Nat) ({ cls := "DrawerRing$Ring", name := "refusal", desc := "(I)I" } : Jvm.MethodName)) ∈ lw_all := lw_g (lw_at lw_m6 162 rfl) rfl
theorem q1434 : (Jvm.Cond.methodLink "DrawerRing$Batch" (31 : Nat) ({ cls := "DrawerRing$Ring", name := "item", desc := "(I)LDrawerRing$Item;" } : Jvm.MethodName)) ∈ lw_all := lw_g (lw_at lw_m6 163 rfl) rfl
theorem q1435 : (Jvm.Cond.methodLink "DrawerRing$Batch" (35 : Nat) ({ cls := "DrawerRing$Ring", name := "pick", desc := "(LDrawerRing$Item;)I" } : Jvm.MethodName)) ∈ lw_all := lw_g (lw_at lw_m6 164 rfl) rfl
theorem q1472 : (Jvm.Cond.methodLink "DrawerRing$Batch" (95 : Nat) ({ cls := "DrawerRing$Batch", name := "byNearest", desc := "(LDrawerRing$Ring;)I" } : Jvm.MethodName)) ∈ lw_all := lw_g (lw_at lw_m6 201 rfl) rfl
theorem q1473 : (Jvm.Cond.privateMethod ({ cls := "DrawerRing$Batch", name := "byNearest", desc := "(LDrawerRing$Ring;)I" } : Jvm.MethodName)) ∈ lw_tbl := lw_at lw_m6 202 rfl
theorem q1474 : (Jvm.Cond.instanceMethod ({ cls := "DrawerRing$Batch", name := "byNearest", desc := "(LDrawerRing$Ring;)I" } : Jvm.MethodName)) ∈ lw_all := lw_g (lw_at lw_m6 203 rfl) rfl
theorem q1475 : (Jvm.Cond.code ({ cls := "DrawerRing$Batch", name := "byNearest", desc := "(LDrawerRing$Ring;)I" } : Jvm.MethodName) prog_2_method_5_code (10 : Nat) (Option.some Jvm.ClassFile.FieldType.int)) ∈ lw_all := lw_g (lw_at lw_m6 204 rfl) rfl
theorem q1476 : (Jvm.Cond.methodLink "DrawerRing$Batch" (48 : Nat) ({ cls := "DrawerRing$Ring", name := "way", desc := "(I)I" } : Jvm.MethodName)) ∈ lw_all := lw_g (lw_at lw_m6 205 rfl) rfl
theorem q1477 : (Jvm.Cond.methodLink "DrawerRing$Batch" (51 : Nat) ({ cls := "java/lang/Math", name := "abs", desc := "(I)I" } : Jvm.MethodName)) ∈ lw_all := lw_g (lw_at lw_m6 206 rfl) rfl
theorem q1478 : (Jvm.Cond.methodLink "DrawerRing$Batch" (98 : Nat) ({ cls := "DrawerRing$Batch", name := "byFewest", desc := "(LDrawerRing$Ring;LDrawerRing$Ring;)I" } : Jvm.MethodName)) ∈ lw_all := lw_g (lw_at lw_m6 207 rfl) rfl
theorem q1479 : (Jvm.Cond.privateMethod ({ cls := "DrawerRing$Batch", name := "byFewest", desc := "(LDrawerRing$Ring;LDrawerRing$Ring;)I" } : Jvm.MethodName)) ∈ lw_tbl := lw_at lw_m6 208 rfl
theorem q1480 : (Jvm.Cond.instanceMethod ({ cls := "DrawerRing$Batch", name := "byFewest", desc := "(LDrawerRing$Ring;LDrawerRing$Ring;)I" } : Jvm.MethodName)) ∈ lw_all := lw_g (lw_at lw_m6 209 rfl) rfl
theorem q1481 : (Jvm.Cond.code ({ cls := "DrawerRing$Batch", name := "byFewest", desc := "(LDrawerRing$Ring;LDrawerRing$Ring;)I" } : Jvm.MethodName) prog_2_method_10_code (7 : Nat) (Option.some Jvm.ClassFile.FieldType.int)) ∈ lw_all := lw_g (lw_at lw_m6 210 rfl) rfl
theorem q1482 : (Jvm.Cond.methodLink "DrawerRing$Batch" (79 : Nat) ({ cls := "DrawerRing$Batch", name := "all", desc := "(LDrawerRing$Ring;)[LDrawerRing$Item;" } : Jvm.MethodName)) ∈ lw_all := lw_g (lw_at lw_m6 211 rfl) rfl
theorem q1483 : (Jvm.Cond.privateMethod ({ cls := "DrawerRing$Batch", name := "all", desc := "(LDrawerRing$Ring;)[LDrawerRing$Item;" } : Jvm.MethodName)) ∈ lw_tbl := lw_at lw_m6 212 rfl
theorem q1484 : (Jvm.Cond.instanceMethod ({ cls := "DrawerRing$Batch", name := "all", desc := "(LDrawerRing$Ring;)[LDrawerRing$Item;" } : Jvm.MethodName)) ∈ lw_all := lw_g (lw_at lw_m6 213 rfl) rfl
theorem q1485 : (Jvm.Cond.code ({ cls := "DrawerRing$Batch", name := "all", desc := "(LDrawerRing$Ring;)[LDrawerRing$Item;" } : Jvm.MethodName) prog_2_method_9_code (5 : Nat) (Option.some (Jvm.ClassFile.FieldType.array (Jvm.ClassFile.FieldType.object "DrawerRing$Item")))) ∈ lw_all := lw_g (lw_at lw_m6 214 rfl) rfl
theorem q1486 : (Jvm.Cond.classLink "DrawerRing$Batch" (44 : Nat) "DrawerRing$Item") ∈ lw_all := lw_g (lw_at lw_m6 215 rfl) rfl
theorem q1488 : (Jvm.Cond.methodLink "DrawerRing$Batch" (83 : Nat) ({ cls := "DrawerRing$Batch", name := "steps", desc := "(LDrawerRing$Ring;LDrawerRing$Ring;[LDrawerRing$Item;)I" } : Jvm.MethodName)) ∈ lw_all := lw_g (lw_at lw_m6 217 rfl) rfl
theorem q1489 : (Jvm.Cond.privateMethod ({ cls := "DrawerRing$Batch", name := "steps", desc := "(LDrawerRing$Ring;LDrawerRing$Ring;[LDrawerRing$Item;)I" } : Jvm.MethodName)) ∈ lw_tbl := lw_at lw_m6 218 rfl
theorem q1490 : (Jvm.Cond.instanceMethod ({ cls := "DrawerRing$Batch", name := "steps", desc := "(LDrawerRing$Ring;LDrawerRing$Ring;[LDrawerRing$Item;)I" } : Jvm.MethodName)) ∈ lw_all := lw_g (lw_at lw_m6 219 rfl) rfl
theorem q1491 : (Jvm.Cond.code ({ cls := "DrawerRing$Batch", name := "steps", desc := "(LDrawerRing$Ring;LDrawerRing$Ring;[LDrawerRing$Item;)I" } : Jvm.MethodName) prog_2_method_8_code (9 : Nat) (Option.some Jvm.ClassFile.FieldType.int)) ∈ lw_all := lw_g (lw_at lw_m6 220 rfl) rfl
theorem q1492 : (Jvm.Cond.methodLink "DrawerRing$Batch" (69 : Nat) ({ cls := "java/lang/System", name := "arraycopy", desc := "(Ljava/lang/Object;ILjava/lang/Object;II)V" } : Jvm.MethodName)) ∈ lw_all := lw_g (lw_at lw_m6 221 rfl) rfl
theorem q1493 : (Jvm.Cond.methodLink "DrawerRing$Batch" (87 : Nat) ({ cls := "DrawerRing$Batch", name := "next", desc := "()Z" } : Jvm.MethodName)) ∈ lw_all := lw_g (lw_at lw_m6 222 rfl) rfl
theorem q1494 : (Jvm.Cond.privateMethod ({ cls := "DrawerRing$Batch", name := "next", desc := "()Z" } : Jvm.MethodName)) ∈ lw_tbl := lw_at lw_m6 223 rfl
theorem q1495 : (Jvm.Cond.instanceMethod ({ cls := "DrawerRing$Batch", name := "next", desc := "()Z" } : Jvm.MethodName)) ∈ lw_all := lw_g (lw_at lw_m6 224 rfl) rfl
theorem q1496 : (Jvm.Cond.code ({ cls := "DrawerRing$Batch", name := "next", desc := "()Z" } : Jvm.MethodName) prog_2_method_6_code (5 : Nat) (Option.some Jvm.ClassFile.FieldType.boolean)) ∈ lw_all := lw_g (lw_at lw_m6 225 rfl) rfl
theorem q1497 : (Jvm.Cond.methodLink "DrawerRing$Batch" (56 : Nat) ({ cls := "DrawerRing$Batch", name := "swap", desc := "(II)V" } : Jvm.MethodName)) ∈ lw_all := lw_g (lw_at lw_m6 226 rfl) rfl
theorem q1498 : (Jvm.Cond.privateMethod ({ cls := "DrawerRing$Batch", name := "swap", desc := "(II)V" } : Jvm.MethodName)) ∈ lw_tbl := lw_at lw_m6 227 rfl
theorem q1499 : (Jvm.Cond.instanceMethod ({ cls := "DrawerRing$Batch", name := "swap", desc := "(II)V" } : Jvm.MethodName)) ∈ lw_all := lw_g (lw_at lw_m6 228 rfl) rfl
theorem q1500 : (Jvm.Cond.code ({ cls := "DrawerRing$Batch", name := "swap", desc := "(II)V" } : Jvm.MethodName) prog_2_method_7_code (4 : Nat) (Option.none : Option Jvm.ClassFile.FieldType)) ∈ lw_all := lw_g (lw_at lw_m6 229 rfl) rfl
theorem q2097 : (Jvm.Cond.castable "DrawerRing$Batch" "java/lang/Object") ∈ lw_tbl := lw_at lw_m9 106 rfl
theorem in_X7 : ∀ w ∈ wsX70, w ∈ lw_all := lw_in wsX70 [658, 660, 662, 664] (by decide +kernel) (by decide +kernel)

