/-! VersionSolver$Board -/
set_option maxRecDepth 100000
def RX1 : String := "VersionSolver$Board"
def TX1 : u_T := fun k => match k with
  | 0 => ("VersionSolver$Board", "packs", "Ljava/util/ArrayList;", true)
  | 1 => ("VersionSolver$Board", "rules", "Ljava/util/ArrayList;", true)
  | _ => ("VersionSolver$Board", "assumptions", "Ljava/util/ArrayList;", true)
def tyX1 : Nat → FieldType := fun k => match k with
  | 0 => .object "java/util/ArrayList"
  | 1 => .object "java/util/ArrayList"
  | _ => .object "java/util/ArrayList"
abbrev wsX10 : List Cond := u_ws RX1 TX1 3
theorem nmX1 : ∀ a, a < 3 → ∀ b, b < 3 → a ≠ b → (TX1 a).2.1 ≠ (TX1 b).2.1 := by decide +kernel
theorem tyX1_ok : ∀ k, k < 3 → parseFieldDescriptor (TX1 k).2.2.1 = some (tyX1 k) := by decide +kernel
abbrev cX1_init : ByteArray := prog_4_method_1_code
def yX1_init : MethodName := ⟨RX1, "<init>", "()V"⟩
def dkwX1_init_1 : List UInt8 := [183, 0, 11, 181, 0, 20, 42, 187, 0, 9, 89, 16, 6, 183, 0, 11, 181, 0, 23, 177]
abbrev dktX1_init_1 : List UInt8 := dkwX1_init_1 ++ []
def dkwX1_init_0 : List UInt8 := [42, 183, 0, 3, 42, 187, 0, 9, 89, 16, 6, 183, 0, 11, 181, 0, 14, 42, 187, 0, 9, 89, 16, 30]
abbrev dktX1_init_0 : List UInt8 := dkwX1_init_0 ++ dktX1_init_1
theorem dksX1_init_0 : cX1_init.data.toList.drop 0 = dktX1_init_0 := by decide +kernel
theorem dksX1_init_1 : cX1_init.data.toList.drop 24 = dktX1_init_1 := dk_seg dksX1_init_0 24 rfl rfl
theorem dX1_init_0 : decode cX1_init 0 = .ok (.aload_n 0, 1) := dk_42 (dk_at dksX1_init_0 0 rfl rfl)
theorem dX1_init_1 : decode cX1_init 1 = .ok (.invokespecial 3, 3) := dk_183 0 3 (dk_at dksX1_init_0 1 rfl rfl)
theorem dX1_init_4 : decode cX1_init 4 = .ok (.aload_n 0, 1) := dk_42 (dk_at dksX1_init_0 4 rfl rfl)
theorem dX1_init_5 : decode cX1_init 5 = .ok (.new 9, 3) := dk_187 0 9 (dk_at dksX1_init_0 5 rfl rfl)
theorem dX1_init_8 : decode cX1_init 8 = .ok (.dup, 1) := dk_89 (dk_at dksX1_init_0 8 rfl rfl)
theorem dX1_init_9 : decode cX1_init 9 = .ok (.bipush 6, 2) := dk_16 6 (dk_at dksX1_init_0 9 rfl rfl)
theorem dX1_init_11 : decode cX1_init 11 = .ok (.invokespecial 11, 3) := dk_183 0 11 (dk_at dksX1_init_0 11 rfl rfl)
theorem dX1_init_14 : decode cX1_init 14 = .ok (.putfield 14, 3) := dk_181 0 14 (dk_at dksX1_init_0 14 rfl rfl)
theorem dX1_init_17 : decode cX1_init 17 = .ok (.aload_n 0, 1) := dk_42 (dk_at dksX1_init_0 17 rfl rfl)
theorem dX1_init_18 : decode cX1_init 18 = .ok (.new 9, 3) := dk_187 0 9 (dk_at dksX1_init_0 18 rfl rfl)
theorem dX1_init_21 : decode cX1_init 21 = .ok (.dup, 1) := dk_89 (dk_at dksX1_init_0 21 rfl rfl)
theorem dX1_init_22 : decode cX1_init 22 = .ok (.bipush 30, 2) := dk_16 30 (dk_at dksX1_init_0 22 rfl rfl)
theorem dX1_init_24 : decode cX1_init 24 = .ok (.invokespecial 11, 3) := dk_183 0 11 (dk_at dksX1_init_1 0 rfl rfl)
theorem dX1_init_27 : decode cX1_init 27 = .ok (.putfield 20, 3) := dk_181 0 20 (dk_at dksX1_init_1 3 rfl rfl)
theorem dX1_init_30 : decode cX1_init 30 = .ok (.aload_n 0, 1) := dk_42 (dk_at dksX1_init_1 6 rfl rfl)
theorem dX1_init_31 : decode cX1_init 31 = .ok (.new 9, 3) := dk_187 0 9 (dk_at dksX1_init_1 7 rfl rfl)
theorem dX1_init_34 : decode cX1_init 34 = .ok (.dup, 1) := dk_89 (dk_at dksX1_init_1 10 rfl rfl)
theorem dX1_init_35 : decode cX1_init 35 = .ok (.bipush 6, 2) := dk_16 6 (dk_at dksX1_init_1 11 rfl rfl)
theorem dX1_init_37 : decode cX1_init 37 = .ok (.invokespecial 11, 3) := dk_183 0 11 (dk_at dksX1_init_1 13 rfl rfl)
theorem dX1_init_40 : decode cX1_init 40 = .ok (.putfield 23, 3) := dk_181 0 23 (dk_at dksX1_init_1 16 rfl rfl)
theorem dX1_init_43 : decode cX1_init 43 = .ok (.return_, 1) := dk_177 (dk_at dksX1_init_1 19 rfl rfl)
abbrev cX1_copy : ByteArray := prog_4_method_2_code
def yX1_copy : MethodName := ⟨RX1, "copy", "()LVersionSolver$Board;"⟩
def dkwX1_copy_3 : List UInt8 := [182, 0, 51, 87, 43, 176]
abbrev dktX1_copy_3 : List UInt8 := dkwX1_copy_3 ++ []
def dkwX1_copy_2 : List UInt8 := [87, 167, 255, 225, 43, 180, 0, 20, 42, 180, 0, 20, 182, 0, 51, 87, 43, 180, 0, 23, 42, 180, 0, 23]
abbrev dktX1_copy_2 : List UInt8 := dkwX1_copy_2 ++ dktX1_copy_3
def dkwX1_copy_1 : List UInt8 := [153, 0, 28, 44, 185, 0, 37, 1, 0, 192, 0, 41, 78, 43, 180, 0, 14, 45, 182, 0, 43, 182, 0, 47]
abbrev dktX1_copy_1 : List UInt8 := dkwX1_copy_1 ++ dktX1_copy_2
def dkwX1_copy_0 : List UInt8 := [187, 0, 15, 89, 183, 0, 26, 76, 42, 180, 0, 14, 182, 0, 27, 77, 44, 185, 0, 31, 1, 0]
abbrev dktX1_copy_0 : List UInt8 := dkwX1_copy_0 ++ dktX1_copy_1
theorem dksX1_copy_0 : cX1_copy.data.toList.drop 0 = dktX1_copy_0 := by decide +kernel
theorem dksX1_copy_1 : cX1_copy.data.toList.drop 22 = dktX1_copy_1 := dk_seg dksX1_copy_0 22 rfl rfl
theorem dksX1_copy_2 : cX1_copy.data.toList.drop 46 = dktX1_copy_2 := dk_seg dksX1_copy_1 24 rfl rfl
theorem dksX1_copy_3 : cX1_copy.data.toList.drop 70 = dktX1_copy_3 := dk_seg dksX1_copy_2 24 rfl rfl
theorem dX1_copy_0 : decode cX1_copy 0 = .ok (.new 15, 3) := dk_187 0 15 (dk_at dksX1_copy_0 0 rfl rfl)
theorem dX1_copy_3 : decode cX1_copy 3 = .ok (.dup, 1) := dk_89 (dk_at dksX1_copy_0 3 rfl rfl)
theorem dX1_copy_4 : decode cX1_copy 4 = .ok (.invokespecial 26, 3) := dk_183 0 26 (dk_at dksX1_copy_0 4 rfl rfl)
theorem dX1_copy_7 : decode cX1_copy 7 = .ok (.astore_n 1, 1) := dk_76 (dk_at dksX1_copy_0 7 rfl rfl)
theorem dX1_copy_8 : decode cX1_copy 8 = .ok (.aload_n 0, 1) := dk_42 (dk_at dksX1_copy_0 8 rfl rfl)
theorem dX1_copy_9 : decode cX1_copy 9 = .ok (.getfield 14, 3) := dk_180 0 14 (dk_at dksX1_copy_0 9 rfl rfl)
theorem dX1_copy_12 : decode cX1_copy 12 = .ok (.invokevirtual 27, 3) := dk_182 0 27 (dk_at dksX1_copy_0 12 rfl rfl)
theorem dX1_copy_15 : decode cX1_copy 15 = .ok (.astore_n 2, 1) := dk_77 (dk_at dksX1_copy_0 15 rfl rfl)
theorem dX1_copy_16 : decode cX1_copy 16 = .ok (.aload_n 2, 1) := dk_44 (dk_at dksX1_copy_0 16 rfl rfl)
theorem dX1_copy_17 : decode cX1_copy 17 = .ok (.invokeinterface 31 1, 5) := by decide +kernel
theorem dX1_copy_22 : decode cX1_copy 22 = .ok (.ifCond .eq 28, 3) := dk_153 0 28 (dk_at dksX1_copy_1 0 rfl rfl)
theorem dX1_copy_25 : decode cX1_copy 25 = .ok (.aload_n 2, 1) := dk_44 (dk_at dksX1_copy_1 3 rfl rfl)
theorem dX1_copy_26 : decode cX1_copy 26 = .ok (.invokeinterface 37 1, 5) := by decide +kernel
theorem dX1_copy_31 : decode cX1_copy 31 = .ok (.checkcast 41, 3) := dk_192 0 41 (dk_at dksX1_copy_1 9 rfl rfl)
theorem dX1_copy_34 : decode cX1_copy 34 = .ok (.astore_n 3, 1) := dk_78 (dk_at dksX1_copy_1 12 rfl rfl)
theorem dX1_copy_35 : decode cX1_copy 35 = .ok (.aload_n 1, 1) := dk_43 (dk_at dksX1_copy_1 13 rfl rfl)
theorem dX1_copy_36 : decode cX1_copy 36 = .ok (.getfield 14, 3) := dk_180 0 14 (dk_at dksX1_copy_1 14 rfl rfl)
theorem dX1_copy_39 : decode cX1_copy 39 = .ok (.aload_n 3, 1) := dk_45 (dk_at dksX1_copy_1 17 rfl rfl)
theorem dX1_copy_40 : decode cX1_copy 40 = .ok (.invokevirtual 43, 3) := dk_182 0 43 (dk_at dksX1_copy_1 18 rfl rfl)
theorem dX1_copy_43 : decode cX1_copy 43 = .ok (.invokevirtual 47, 3) := dk_182 0 47 (dk_at dksX1_copy_1 21 rfl rfl)
theorem dX1_copy_46 : decode cX1_copy 46 = .ok (.pop, 1) := dk_87 (dk_at dksX1_copy_2 0 rfl rfl)
theorem dX1_copy_47 : decode cX1_copy 47 = .ok (.goto (-31), 3) := dk_167 255 225 (dk_at dksX1_copy_2 1 rfl rfl)
theorem dX1_copy_50 : decode cX1_copy 50 = .ok (.aload_n 1, 1) := dk_43 (dk_at dksX1_copy_2 4 rfl rfl)
theorem dX1_copy_51 : decode cX1_copy 51 = .ok (.getfield 20, 3) := dk_180 0 20 (dk_at dksX1_copy_2 5 rfl rfl)
theorem dX1_copy_54 : decode cX1_copy 54 = .ok (.aload_n 0, 1) := dk_42 (dk_at dksX1_copy_2 8 rfl rfl)
theorem dX1_copy_55 : decode cX1_copy 55 = .ok (.getfield 20, 3) := dk_180 0 20 (dk_at dksX1_copy_2 9 rfl rfl)
theorem dX1_copy_58 : decode cX1_copy 58 = .ok (.invokevirtual 51, 3) := dk_182 0 51 (dk_at dksX1_copy_2 12 rfl rfl)
theorem dX1_copy_61 : decode cX1_copy 61 = .ok (.pop, 1) := dk_87 (dk_at dksX1_copy_2 15 rfl rfl)
theorem dX1_copy_62 : decode cX1_copy 62 = .ok (.aload_n 1, 1) := dk_43 (dk_at dksX1_copy_2 16 rfl rfl)
theorem dX1_copy_63 : decode cX1_copy 63 = .ok (.getfield 23, 3) := dk_180 0 23 (dk_at dksX1_copy_2 17 rfl rfl)
theorem dX1_copy_66 : decode cX1_copy 66 = .ok (.aload_n 0, 1) := dk_42 (dk_at dksX1_copy_2 20 rfl rfl)
theorem dX1_copy_67 : decode cX1_copy 67 = .ok (.getfield 23, 3) := dk_180 0 23 (dk_at dksX1_copy_2 21 rfl rfl)
theorem dX1_copy_70 : decode cX1_copy 70 = .ok (.invokevirtual 51, 3) := dk_182 0 51 (dk_at dksX1_copy_3 0 rfl rfl)
theorem dX1_copy_73 : decode cX1_copy 73 = .ok (.pop, 1) := dk_87 (dk_at dksX1_copy_3 3 rfl rfl)
theorem dX1_copy_74 : decode cX1_copy 74 = .ok (.aload_n 1, 1) := dk_43 (dk_at dksX1_copy_3 4 rfl rfl)
theorem dX1_copy_75 : decode cX1_copy 75 = .ok (.areturn, 1) := dk_176 (dk_at dksX1_copy_3 5 rfl rfl)
abbrev cX1_add : ByteArray := prog_4_method_5_code
def yX1_add : MethodName := ⟨RX1, "add", "(LVersionSolver$Rule;)I"⟩
def dkwX1_add_0 : List UInt8 := [42, 180, 0, 20, 43, 182, 0, 47, 87, 42, 180, 0, 20, 182, 0, 73, 4, 100, 172]
abbrev dktX1_add_0 : List UInt8 := dkwX1_add_0 ++ []
theorem dksX1_add_0 : cX1_add.data.toList.drop 0 = dktX1_add_0 := by decide +kernel
theorem dX1_add_0 : decode cX1_add 0 = .ok (.aload_n 0, 1) := dk_42 (dk_at dksX1_add_0 0 rfl rfl)
theorem dX1_add_1 : decode cX1_add 1 = .ok (.getfield 20, 3) := dk_180 0 20 (dk_at dksX1_add_0 1 rfl rfl)
theorem dX1_add_4 : decode cX1_add 4 = .ok (.aload_n 1, 1) := dk_43 (dk_at dksX1_add_0 4 rfl rfl)
theorem dX1_add_5 : decode cX1_add 5 = .ok (.invokevirtual 47, 3) := dk_182 0 47 (dk_at dksX1_add_0 5 rfl rfl)
theorem dX1_add_8 : decode cX1_add 8 = .ok (.pop, 1) := dk_87 (dk_at dksX1_add_0 8 rfl rfl)
theorem dX1_add_9 : decode cX1_add 9 = .ok (.aload_n 0, 1) := dk_42 (dk_at dksX1_add_0 9 rfl rfl)
theorem dX1_add_10 : decode cX1_add 10 = .ok (.getfield 20, 3) := dk_180 0 20 (dk_at dksX1_add_0 10 rfl rfl)
theorem dX1_add_13 : decode cX1_add 13 = .ok (.invokevirtual 73, 3) := dk_182 0 73 (dk_at dksX1_add_0 13 rfl rfl)
theorem dX1_add_16 : decode cX1_add 16 = .ok (.iconst 1, 1) := dk_4 (dk_at dksX1_add_0 16 rfl rfl)
theorem dX1_add_17 : decode cX1_add 17 = .ok (.isub, 1) := dk_100 (dk_at dksX1_add_0 17 rfl rfl)
theorem dX1_add_18 : decode cX1_add 18 = .ok (.ireturn, 1) := dk_172 (dk_at dksX1_add_0 18 rfl rfl)
abbrev cX1_masks : ByteArray := prog_4_method_4_code
def yX1_masks : MethodName := ⟨RX1, "masks", "()[I"⟩
def dkwX1_masks_1 : List UInt8 := [180, 0, 20, 28, 182, 0, 61, 192, 0, 56, 182, 0, 76, 79, 132, 2, 1, 167, 255, 229, 43, 176]
abbrev dktX1_masks_1 : List UInt8 := dkwX1_masks_1 ++ []
def dkwX1_masks_0 : List UInt8 := [42, 180, 0, 20, 182, 0, 73, 188, 10, 76, 3, 61, 28, 43, 190, 162, 0, 27, 43, 28, 42, 42]
abbrev dktX1_masks_0 : List UInt8 := dkwX1_masks_0 ++ dktX1_masks_1
theorem dksX1_masks_0 : cX1_masks.data.toList.drop 0 = dktX1_masks_0 := by decide +kernel
theorem dksX1_masks_1 : cX1_masks.data.toList.drop 22 = dktX1_masks_1 := dk_seg dksX1_masks_0 22 rfl rfl
theorem dX1_masks_0 : decode cX1_masks 0 = .ok (.aload_n 0, 1) := dk_42 (dk_at dksX1_masks_0 0 rfl rfl)
theorem dX1_masks_1 : decode cX1_masks 1 = .ok (.getfield 20, 3) := dk_180 0 20 (dk_at dksX1_masks_0 1 rfl rfl)
theorem dX1_masks_4 : decode cX1_masks 4 = .ok (.invokevirtual 73, 3) := dk_182 0 73 (dk_at dksX1_masks_0 4 rfl rfl)
theorem dX1_masks_7 : decode cX1_masks 7 = .ok (.newarray .int, 2) := dk_188_10 (dk_at dksX1_masks_0 7 rfl rfl)
theorem dX1_masks_9 : decode cX1_masks 9 = .ok (.astore_n 1, 1) := dk_76 (dk_at dksX1_masks_0 9 rfl rfl)
theorem dX1_masks_10 : decode cX1_masks 10 = .ok (.iconst 0, 1) := dk_3 (dk_at dksX1_masks_0 10 rfl rfl)
theorem dX1_masks_11 : decode cX1_masks 11 = .ok (.istore_n 2, 1) := dk_61 (dk_at dksX1_masks_0 11 rfl rfl)
theorem dX1_masks_12 : decode cX1_masks 12 = .ok (.iload_n 2, 1) := dk_28 (dk_at dksX1_masks_0 12 rfl rfl)
theorem dX1_masks_13 : decode cX1_masks 13 = .ok (.aload_n 1, 1) := dk_43 (dk_at dksX1_masks_0 13 rfl rfl)
theorem dX1_masks_14 : decode cX1_masks 14 = .ok (.arraylength, 1) := dk_190 (dk_at dksX1_masks_0 14 rfl rfl)
theorem dX1_masks_15 : decode cX1_masks 15 = .ok (.if_icmp .ge 27, 3) := dk_162 0 27 (dk_at dksX1_masks_0 15 rfl rfl)
theorem dX1_masks_18 : decode cX1_masks 18 = .ok (.aload_n 1, 1) := dk_43 (dk_at dksX1_masks_0 18 rfl rfl)
theorem dX1_masks_19 : decode cX1_masks 19 = .ok (.iload_n 2, 1) := dk_28 (dk_at dksX1_masks_0 19 rfl rfl)
theorem dX1_masks_20 : decode cX1_masks 20 = .ok (.aload_n 0, 1) := dk_42 (dk_at dksX1_masks_0 20 rfl rfl)
theorem dX1_masks_21 : decode cX1_masks 21 = .ok (.aload_n 0, 1) := dk_42 (dk_at dksX1_masks_0 21 rfl rfl)
theorem dX1_masks_22 : decode cX1_masks 22 = .ok (.getfield 20, 3) := dk_180 0 20 (dk_at dksX1_masks_1 0 rfl rfl)
theorem dX1_masks_25 : decode cX1_masks 25 = .ok (.iload_n 2, 1) := dk_28 (dk_at dksX1_masks_1 3 rfl rfl)
theorem dX1_masks_26 : decode cX1_masks 26 = .ok (.invokevirtual 61, 3) := dk_182 0 61 (dk_at dksX1_masks_1 4 rfl rfl)
theorem dX1_masks_29 : decode cX1_masks 29 = .ok (.checkcast 56, 3) := dk_192 0 56 (dk_at dksX1_masks_1 7 rfl rfl)
theorem dX1_masks_32 : decode cX1_masks 32 = .ok (.invokevirtual 76, 3) := dk_182 0 76 (dk_at dksX1_masks_1 10 rfl rfl)
theorem dX1_masks_35 : decode cX1_masks 35 = .ok (.iastore, 1) := dk_79 (dk_at dksX1_masks_1 13 rfl rfl)
theorem dX1_masks_36 : decode cX1_masks 36 = .ok (.iinc 2 1, 3) := dk_132 2 1 (dk_at dksX1_masks_1 14 rfl rfl)
theorem dX1_masks_39 : decode cX1_masks 39 = .ok (.goto (-27), 3) := dk_167 255 229 (dk_at dksX1_masks_1 17 rfl rfl)
theorem dX1_masks_42 : decode cX1_masks 42 = .ok (.aload_n 1, 1) := dk_43 (dk_at dksX1_masks_1 20 rfl rfl)
theorem dX1_masks_43 : decode cX1_masks 43 = .ok (.areturn, 1) := dk_176 (dk_at dksX1_masks_1 21 rfl rfl)
abbrev cX1_maskOf : ByteArray := prog_4_method_3_code
def yX1_maskOf : MethodName := ⟨RX1, "maskOf", "(LVersionSolver$Rule;)I"⟩
def dkwX1_maskOf_1 : List UInt8 := [192, 0, 41, 43, 180, 0, 65, 182, 0, 69, 172]
abbrev dktX1_maskOf_1 : List UInt8 := dkwX1_maskOf_1 ++ []
def dkwX1_maskOf_0 : List UInt8 := [43, 182, 0, 55, 156, 0, 7, 3, 167, 0, 24, 42, 180, 0, 14, 43, 182, 0, 55, 182, 0, 61]
abbrev dktX1_maskOf_0 : List UInt8 := dkwX1_maskOf_0 ++ dktX1_maskOf_1
theorem dksX1_maskOf_0 : cX1_maskOf.data.toList.drop 0 = dktX1_maskOf_0 := by decide +kernel
theorem dksX1_maskOf_1 : cX1_maskOf.data.toList.drop 22 = dktX1_maskOf_1 := dk_seg dksX1_maskOf_0 22 rfl rfl
theorem dX1_maskOf_0 : decode cX1_maskOf 0 = .ok (.aload_n 1, 1) := dk_43 (dk_at dksX1_maskOf_0 0 rfl rfl)
theorem dX1_maskOf_1 : decode cX1_maskOf 1 = .ok (.invokevirtual 55, 3) := dk_182 0 55 (dk_at dksX1_maskOf_0 1 rfl rfl)
theorem dX1_maskOf_4 : decode cX1_maskOf 4 = .ok (.ifCond .ge 7, 3) := dk_156 0 7 (dk_at dksX1_maskOf_0 4 rfl rfl)
theorem dX1_maskOf_7 : decode cX1_maskOf 7 = .ok (.iconst 0, 1) := dk_3 (dk_at dksX1_maskOf_0 7 rfl rfl)
theorem dX1_maskOf_8 : decode cX1_maskOf 8 = .ok (.goto 24, 3) := dk_167 0 24 (dk_at dksX1_maskOf_0 8 rfl rfl)
theorem dX1_maskOf_11 : decode cX1_maskOf 11 = .ok (.aload_n 0, 1) := dk_42 (dk_at dksX1_maskOf_0 11 rfl rfl)
theorem dX1_maskOf_12 : decode cX1_maskOf 12 = .ok (.getfield 14, 3) := dk_180 0 14 (dk_at dksX1_maskOf_0 12 rfl rfl)
theorem dX1_maskOf_15 : decode cX1_maskOf 15 = .ok (.aload_n 1, 1) := dk_43 (dk_at dksX1_maskOf_0 15 rfl rfl)
theorem dX1_maskOf_16 : decode cX1_maskOf 16 = .ok (.invokevirtual 55, 3) := dk_182 0 55 (dk_at dksX1_maskOf_0 16 rfl rfl)
theorem dX1_maskOf_19 : decode cX1_maskOf 19 = .ok (.invokevirtual 61, 3) := dk_182 0 61 (dk_at dksX1_maskOf_0 19 rfl rfl)
theorem dX1_maskOf_22 : decode cX1_maskOf 22 = .ok (.checkcast 41, 3) := dk_192 0 41 (dk_at dksX1_maskOf_1 0 rfl rfl)
theorem dX1_maskOf_25 : decode cX1_maskOf 25 = .ok (.aload_n 1, 1) := dk_43 (dk_at dksX1_maskOf_1 3 rfl rfl)
theorem dX1_maskOf_26 : decode cX1_maskOf 26 = .ok (.getfield 65, 3) := dk_180 0 65 (dk_at dksX1_maskOf_1 4 rfl rfl)
theorem dX1_maskOf_29 : decode cX1_maskOf 29 = .ok (.invokevirtual 69, 3) := dk_182 0 69 (dk_at dksX1_maskOf_1 7 rfl rfl)
theorem dX1_maskOf_32 : decode cX1_maskOf 32 = .ok (.ireturn, 1) := dk_172 (dk_at dksX1_maskOf_1 10 rfl rfl)
abbrev cX1_isAssumed : ByteArray := prog_4_method_6_code
def yX1_isAssumed : MethodName := ⟨RX1, "isAssumed", "(I)Z"⟩
def dkwX1_isAssumed_1 : List UInt8 := [192, 0, 80, 78, 45, 180, 0, 82, 27, 160, 0, 5, 4, 172, 167, 255, 227, 3, 172]
abbrev dktX1_isAssumed_1 : List UInt8 := dkwX1_isAssumed_1 ++ []
def dkwX1_isAssumed_0 : List UInt8 := [42, 180, 0, 23, 182, 0, 27, 77, 44, 185, 0, 31, 1, 0, 153, 0, 26, 44, 185, 0, 37, 1, 0]
abbrev dktX1_isAssumed_0 : List UInt8 := dkwX1_isAssumed_0 ++ dktX1_isAssumed_1
theorem dksX1_isAssumed_0 : cX1_isAssumed.data.toList.drop 0 = dktX1_isAssumed_0 := by decide +kernel
theorem dksX1_isAssumed_1 : cX1_isAssumed.data.toList.drop 23 = dktX1_isAssumed_1 := dk_seg dksX1_isAssumed_0 23 rfl rfl
theorem dX1_isAssumed_0 : decode cX1_isAssumed 0 = .ok (.aload_n 0, 1) := dk_42 (dk_at dksX1_isAssumed_0 0 rfl rfl)
theorem dX1_isAssumed_1 : decode cX1_isAssumed 1 = .ok (.getfield 23, 3) := dk_180 0 23 (dk_at dksX1_isAssumed_0 1 rfl rfl)
theorem dX1_isAssumed_4 : decode cX1_isAssumed 4 = .ok (.invokevirtual 27, 3) := dk_182 0 27 (dk_at dksX1_isAssumed_0 4 rfl rfl)
theorem dX1_isAssumed_7 : decode cX1_isAssumed 7 = .ok (.astore_n 2, 1) := dk_77 (dk_at dksX1_isAssumed_0 7 rfl rfl)
theorem dX1_isAssumed_8 : decode cX1_isAssumed 8 = .ok (.aload_n 2, 1) := dk_44 (dk_at dksX1_isAssumed_0 8 rfl rfl)
theorem dX1_isAssumed_9 : decode cX1_isAssumed 9 = .ok (.invokeinterface 31 1, 5) := by decide +kernel
theorem dX1_isAssumed_14 : decode cX1_isAssumed 14 = .ok (.ifCond .eq 26, 3) := dk_153 0 26 (dk_at dksX1_isAssumed_0 14 rfl rfl)
theorem dX1_isAssumed_17 : decode cX1_isAssumed 17 = .ok (.aload_n 2, 1) := dk_44 (dk_at dksX1_isAssumed_0 17 rfl rfl)
theorem dX1_isAssumed_18 : decode cX1_isAssumed 18 = .ok (.invokeinterface 37 1, 5) := by decide +kernel
theorem dX1_isAssumed_23 : decode cX1_isAssumed 23 = .ok (.checkcast 80, 3) := dk_192 0 80 (dk_at dksX1_isAssumed_1 0 rfl rfl)
theorem dX1_isAssumed_26 : decode cX1_isAssumed 26 = .ok (.astore_n 3, 1) := dk_78 (dk_at dksX1_isAssumed_1 3 rfl rfl)
theorem dX1_isAssumed_27 : decode cX1_isAssumed 27 = .ok (.aload_n 3, 1) := dk_45 (dk_at dksX1_isAssumed_1 4 rfl rfl)
theorem dX1_isAssumed_28 : decode cX1_isAssumed 28 = .ok (.getfield 82, 3) := dk_180 0 82 (dk_at dksX1_isAssumed_1 5 rfl rfl)
theorem dX1_isAssumed_31 : decode cX1_isAssumed 31 = .ok (.iload_n 1, 1) := dk_27 (dk_at dksX1_isAssumed_1 8 rfl rfl)
theorem dX1_isAssumed_32 : decode cX1_isAssumed 32 = .ok (.if_icmp .ne 5, 3) := dk_160 0 5 (dk_at dksX1_isAssumed_1 9 rfl rfl)
theorem dX1_isAssumed_35 : decode cX1_isAssumed 35 = .ok (.iconst 1, 1) := dk_4 (dk_at dksX1_isAssumed_1 12 rfl rfl)
theorem dX1_isAssumed_36 : decode cX1_isAssumed 36 = .ok (.ireturn, 1) := dk_172 (dk_at dksX1_isAssumed_1 13 rfl rfl)
theorem dX1_isAssumed_37 : decode cX1_isAssumed 37 = .ok (.goto (-29), 3) := dk_167 255 227 (dk_at dksX1_isAssumed_1 14 rfl rfl)
theorem dX1_isAssumed_40 : decode cX1_isAssumed 40 = .ok (.iconst 0, 1) := dk_3 (dk_at dksX1_isAssumed_1 17 rfl rfl)
theorem dX1_isAssumed_41 : decode cX1_isAssumed 41 = .ok (.ireturn, 1) := dk_172 (dk_at dksX1_isAssumed_1 18 rfl rfl)
theorem q91 : (Jvm.Cond.initialized "VersionSolver$Board") ∈ lw_all := lw_g (lw_at lw_m1 2 rfl) rfl
theorem q141 : (Jvm.Cond.instantiable "VersionSolver$Board" (3 : Nat)) ∈ lw_all := lw_g (lw_at lw_m1 52 rfl) rfl
theorem q143 : (Jvm.Cond.instanceMethod ({ cls := "VersionSolver$Board", name := "<init>", desc := "()V" } : Jvm.MethodName)) ∈ lw_all := lw_g (lw_at lw_m1 54 rfl) rfl
theorem q144 : (Jvm.Cond.code ({ cls := "VersionSolver$Board", name := "<init>", desc := "()V" } : Jvm.MethodName) prog_4_method_1_code (1 : Nat) (Option.none : Option Jvm.ClassFile.FieldType)) ∈ lw_all := lw_g (lw_at lw_m1 55 rfl) rfl
theorem q145 : (Jvm.Cond.methodLink "VersionSolver$Board" (3 : Nat) ({ cls := "java/lang/Object", name := "<init>", desc := "()V" } : Jvm.MethodName)) ∈ lw_all := lw_g (lw_at lw_m1 56 rfl) rfl
theorem q148 : (Jvm.Cond.classLink "VersionSolver$Board" (9 : Nat) "java/util/ArrayList") ∈ lw_all := lw_g (lw_at lw_m1 59 rfl) rfl
theorem q150 : (Jvm.Cond.methodLink "VersionSolver$Board" (11 : Nat) ({ cls := "java/util/ArrayList", name := "<init>", desc := "(I)V" } : Jvm.MethodName)) ∈ lw_all := lw_g (lw_at lw_m1 61 rfl) rfl
theorem q179 : (Jvm.Cond.fieldLink "VersionSolver$Board" (14 : Nat) "VersionSolver$Board" "packs" "Ljava/util/ArrayList;") ∈ lw_all := lw_g (lw_at lw_m1 90 rfl) rfl
theorem q184 : (Jvm.Cond.fieldLink "VersionSolver$Board" (20 : Nat) "VersionSolver$Board" "rules" "Ljava/util/ArrayList;") ∈ lw_all := lw_g (lw_at lw_m1 95 rfl) rfl
theorem q189 : (Jvm.Cond.fieldLink "VersionSolver$Board" (23 : Nat) "VersionSolver$Board" "assumptions" "Ljava/util/ArrayList;") ∈ lw_all := lw_g (lw_at lw_m1 100 rfl) rfl
theorem q194 : (Jvm.Cond.laysFinal "VersionSolver$Board" "VersionSolver$Board" "packs" "Ljava/util/ArrayList;") ∈ lw_all := lw_g (lw_at lw_m1 105 rfl) rfl
theorem q195 : (Jvm.Cond.soleField "VersionSolver$Board" "packs") ∈ lw_all := lw_g (lw_at lw_m1 106 rfl) rfl
theorem q196 : (Jvm.Cond.laysFinal "VersionSolver$Board" "VersionSolver$Board" "rules" "Ljava/util/ArrayList;") ∈ lw_all := lw_g (lw_at lw_m1 107 rfl) rfl
theorem q197 : (Jvm.Cond.soleField "VersionSolver$Board" "rules") ∈ lw_all := lw_g (lw_at lw_m1 108 rfl) rfl
theorem q198 : (Jvm.Cond.laysFinal "VersionSolver$Board" "VersionSolver$Board" "assumptions" "Ljava/util/ArrayList;") ∈ lw_all := lw_g (lw_at lw_m1 109 rfl) rfl
theorem q199 : (Jvm.Cond.soleField "VersionSolver$Board" "assumptions") ∈ lw_all := lw_g (lw_at lw_m1 110 rfl) rfl
theorem q200 : (Jvm.Cond.superclass "VersionSolver$Board" "java/lang/Object") ∈ lw_all := lw_g (lw_at lw_m1 111 rfl) rfl
theorem q288 : (Jvm.Cond.instanceMethod ({ cls := "VersionSolver$Board", name := "copy", desc := "()LVersionSolver$Board;" } : Jvm.MethodName)) ∈ lw_all := lw_g (lw_at lw_m1 199 rfl) rfl
theorem q289 : (Jvm.Cond.selects "VersionSolver$Board" ({ cls := "VersionSolver$Board", name := "copy", desc := "()LVersionSolver$Board;" } : Jvm.MethodName) ({ cls := "VersionSolver$Board", name := "copy", desc := "()LVersionSolver$Board;" } : Jvm.MethodName)) ∈ lw_all := lw_g (lw_at lw_m1 200 rfl) rfl
theorem q290 : (Jvm.Cond.code ({ cls := "VersionSolver$Board", name := "copy", desc := "()LVersionSolver$Board;" } : Jvm.MethodName) prog_4_method_2_code (4 : Nat) (Option.some (Jvm.ClassFile.FieldType.object "VersionSolver$Board"))) ∈ lw_all := lw_g (lw_at lw_m1 201 rfl) rfl
theorem q291 : (Jvm.Cond.classLink "VersionSolver$Board" (15 : Nat) "VersionSolver$Board") ∈ lw_all := lw_g (lw_at lw_m1 202 rfl) rfl
theorem q292 : (Jvm.Cond.methodLink "VersionSolver$Board" (26 : Nat) ({ cls := "VersionSolver$Board", name := "<init>", desc := "()V" } : Jvm.MethodName)) ∈ lw_all := lw_g (lw_at lw_m1 203 rfl) rfl
theorem q293 : (Jvm.Cond.methodLink "VersionSolver$Board" (27 : Nat) ({ cls := "java/util/ArrayList", name := "iterator", desc := "()Ljava/util/Iterator;" } : Jvm.MethodName)) ∈ lw_all := lw_g (lw_at lw_m1 204 rfl) rfl
theorem q316 : (Jvm.Cond.interfaceEntry "VersionSolver$Board" (31 : Nat)) ∈ lw_tbl := lw_at lw_m1 227 rfl
theorem q317 : (Jvm.Cond.methodLink "VersionSolver$Board" (31 : Nat) ({ cls := "java/util/Iterator", name := "hasNext", desc := "()Z" } : Jvm.MethodName)) ∈ lw_all := lw_g (lw_at lw_m1 228 rfl) rfl
theorem q326 : (Jvm.Cond.interfaceEntry "VersionSolver$Board" (37 : Nat)) ∈ lw_tbl := lw_at lw_m1 237 rfl
theorem q327 : (Jvm.Cond.methodLink "VersionSolver$Board" (37 : Nat) ({ cls := "java/util/Iterator", name := "next", desc := "()Ljava/lang/Object;" } : Jvm.MethodName)) ∈ lw_all := lw_g (lw_at lw_m1 238 rfl) rfl
theorem q339 : (Jvm.Cond.classLink "VersionSolver$Board" (41 : Nat) "VersionSolver$Pack") ∈ lw_all := lw_g (lw_at lw_m2 10 rfl) rfl
theorem q340 : (Jvm.Cond.methodLink "VersionSolver$Board" (43 : Nat) ({ cls := "VersionSolver$Pack", name := "copy", desc := "()LVersionSolver$Pack;" } : Jvm.MethodName)) ∈ lw_all := lw_g (lw_at lw_m2 11 rfl) rfl
theorem q408 : (Jvm.Cond.selects "VersionSolver$Board" ({ cls := "java/lang/Object", name := "getClass", desc := "()Ljava/lang/Class;" } : Jvm.MethodName) ({ cls := "java/lang/Object", name := "getClass", desc := "()Ljava/lang/Class;" } : Jvm.MethodName)) ∈ lw_all := lw_g (lw_at lw_m2 79 rfl) rfl
theorem q452 : (Jvm.Cond.methodLink "VersionSolver$Board" (47 : Nat) ({ cls := "java/util/ArrayList", name := "add", desc := "(Ljava/lang/Object;)Z" } : Jvm.MethodName)) ∈ lw_all := lw_g (lw_at lw_m2 123 rfl) rfl
theorem q464 : (Jvm.Cond.methodLink "VersionSolver$Board" (51 : Nat) ({ cls := "java/util/ArrayList", name := "addAll", desc := "(Ljava/util/Collection;)Z" } : Jvm.MethodName)) ∈ lw_all := lw_g (lw_at lw_m2 135 rfl) rfl
theorem q715 : (Jvm.Cond.fieldLink "VersionSolver$Board" (65 : Nat) "VersionSolver$Rule" "range" "I") ∈ lw_all := lw_g (lw_at lw_m3 146 rfl) rfl
theorem q730 : (Jvm.Cond.instanceMethod ({ cls := "VersionSolver$Board", name := "add", desc := "(LVersionSolver$Rule;)I" } : Jvm.MethodName)) ∈ lw_all := lw_g (lw_at lw_m3 161 rfl) rfl
theorem q731 : (Jvm.Cond.selects "VersionSolver$Board" ({ cls := "VersionSolver$Board", name := "add", desc := "(LVersionSolver$Rule;)I" } : Jvm.MethodName) ({ cls := "VersionSolver$Board", name := "add", desc := "(LVersionSolver$Rule;)I" } : Jvm.MethodName)) ∈ lw_all := lw_g (lw_at lw_m3 162 rfl) rfl
theorem q732 : (Jvm.Cond.code ({ cls := "VersionSolver$Board", name := "add", desc := "(LVersionSolver$Rule;)I" } : Jvm.MethodName) prog_4_method_5_code (2 : Nat) (Option.some Jvm.ClassFile.FieldType.int)) ∈ lw_all := lw_g (lw_at lw_m3 163 rfl) rfl
theorem q733 : (Jvm.Cond.methodLink "VersionSolver$Board" (73 : Nat) ({ cls := "java/util/ArrayList", name := "size", desc := "()I" } : Jvm.MethodName)) ∈ lw_all := lw_g (lw_at lw_m3 164 rfl) rfl
theorem q863 : (Jvm.Cond.instanceMethod ({ cls := "VersionSolver$Board", name := "masks", desc := "()[I" } : Jvm.MethodName)) ∈ lw_all := lw_g (lw_at lw_m4 54 rfl) rfl
theorem q864 : (Jvm.Cond.selects "VersionSolver$Board" ({ cls := "VersionSolver$Board", name := "masks", desc := "()[I" } : Jvm.MethodName) ({ cls := "VersionSolver$Board", name := "masks", desc := "()[I" } : Jvm.MethodName)) ∈ lw_all := lw_g (lw_at lw_m4 55 rfl) rfl
theorem q865 : (Jvm.Cond.code ({ cls := "VersionSolver$Board", name := "masks", desc := "()[I" } : Jvm.MethodName) prog_4_method_4_code (3 : Nat) (Option.some (Jvm.ClassFile.FieldType.array Jvm.ClassFile.FieldType.int))) ∈ lw_all := lw_g (lw_at lw_m4 56 rfl) rfl
theorem q866 : (Jvm.Cond.methodLink "VersionSolver$Board" (61 : Nat) ({ cls := "java/util/ArrayList", name := "get", desc := "(I)Ljava/lang/Object;" } : Jvm.MethodName)) ∈ lw_all := lw_g (lw_at lw_m4 57 rfl) rfl
theorem q867 : (Jvm.Cond.classLink "VersionSolver$Board" (56 : Nat) "VersionSolver$Rule") ∈ lw_all := lw_g (lw_at lw_m4 58 rfl) rfl
theorem q868 : (Jvm.Cond.methodLink "VersionSolver$Board" (76 : Nat) ({ cls := "VersionSolver$Board", name := "maskOf", desc := "(LVersionSolver$Rule;)I" } : Jvm.MethodName)) ∈ lw_all := lw_g (lw_at lw_m4 59 rfl) rfl
theorem q869 : (Jvm.Cond.instanceMethod ({ cls := "VersionSolver$Board", name := "maskOf", desc := "(LVersionSolver$Rule;)I" } : Jvm.MethodName)) ∈ lw_all := lw_g (lw_at lw_m4 60 rfl) rfl
theorem q870 : (Jvm.Cond.selects "VersionSolver$Board" ({ cls := "VersionSolver$Board", name := "maskOf", desc := "(LVersionSolver$Rule;)I" } : Jvm.MethodName) ({ cls := "VersionSolver$Board", name := "maskOf", desc := "(LVersionSolver$Rule;)I" } : Jvm.MethodName)) ∈ lw_all := lw_g (lw_at lw_m4 61 rfl) rfl
theorem q871 : (Jvm.Cond.code ({ cls := "VersionSolver$Board", name := "maskOf", desc := "(LVersionSolver$Rule;)I" } : Jvm.MethodName) prog_4_method_3_code (2 : Nat) (Option.some Jvm.ClassFile.FieldType.int)) ∈ lw_all := lw_g (lw_at lw_m4 62 rfl) rfl
theorem q872 : (Jvm.Cond.methodLink "VersionSolver$Board" (55 : Nat) ({ cls := "VersionSolver$Rule", name := "ranged", desc := "()I" } : Jvm.MethodName)) ∈ lw_all := lw_g (lw_at lw_m4 63 rfl) rfl
theorem q885 : (Jvm.Cond.methodLink "VersionSolver$Board" (69 : Nat) ({ cls := "VersionSolver$Pack", name := "covers", desc := "(I)I" } : Jvm.MethodName)) ∈ lw_all := lw_g (lw_at lw_m4 76 rfl) rfl
theorem q1102 : (Jvm.Cond.instanceMethod ({ cls := "VersionSolver$Board", name := "isAssumed", desc := "(I)Z" } : Jvm.MethodName)) ∈ lw_all := lw_g (lw_at lw_m5 53 rfl) rfl
theorem q1103 : (Jvm.Cond.selects "VersionSolver$Board" ({ cls := "VersionSolver$Board", name := "isAssumed", desc := "(I)Z" } : Jvm.MethodName) ({ cls := "VersionSolver$Board", name := "isAssumed", desc := "(I)Z" } : Jvm.MethodName)) ∈ lw_all := lw_g (lw_at lw_m5 54 rfl) rfl
theorem q1104 : (Jvm.Cond.code ({ cls := "VersionSolver$Board", name := "isAssumed", desc := "(I)Z" } : Jvm.MethodName) prog_4_method_6_code (4 : Nat) (Option.some Jvm.ClassFile.FieldType.boolean)) ∈ lw_all := lw_g (lw_at lw_m5 55 rfl) rfl
theorem q1105 : (Jvm.Cond.classLink "VersionSolver$Board" (80 : Nat) "VersionSolver$Assumption") ∈ lw_all := lw_g (lw_at lw_m5 56 rfl) rfl
theorem q1115 : (Jvm.Cond.fieldLinkNest "VersionSolver$Board" (82 : Nat) "VersionSolver$Assumption" "pack" "I" "VersionSolver") ∈ lw_tbl := lw_at lw_m5 66 rfl
theorem q2503 : (Jvm.Cond.castable "VersionSolver$Board" "java/lang/Object") ∈ lw_tbl := lw_at lw_m11 14 rfl
theorem in_X1 : ∀ w ∈ wsX10, w ∈ lw_all := lw_in wsX10 [194, 196, 198] (by decide +kernel) (by decide +kernel)
/-! VersionSolver$Pack -/
set_option maxRecDepth 100000
def RX3 : String := "VersionSolver$Pack"
def TX3 : u_T := fun k => match k with
  | 0 => ("VersionSolver$Pack", "versions", "Ljava/util/ArrayList;", true)
  | _ => ("VersionSolver$Pack", "isOpen", "Z", false)
def tyX3 : Nat → FieldType := fun k => match k with
  | 0 => .object "java/util/ArrayList"
  | _ => .boolean
abbrev wsX30 : List Cond := u_ws RX3 TX3 2
theorem nmX3 : ∀ a, a < 2 → ∀ b, b < 2 → a ≠ b → (TX3 a).2.1 ≠ (TX3 b).2.1 := by decide +kernel
theorem tyX3_ok : ∀ k, k < 2 → parseFieldDescriptor (TX3 k).2.2.1 = some (tyX3 k) := by decide +kernel
abbrev cX3_copy : ByteArray := prog_13_method_2_code
def yX3_copy : MethodName := ⟨RX3, "copy", "()LVersionSolver$Pack;"⟩
def dkwX3_copy_1 : List UInt8 := [180, 0, 25, 181, 0, 25, 43, 176]
abbrev dktX3_copy_1 : List UInt8 := dkwX3_copy_1 ++ []
def dkwX3_copy_0 : List UInt8 := [187, 0, 15, 89, 183, 0, 20, 76, 43, 180, 0, 14, 42, 180, 0, 14, 182, 0, 21, 87, 43, 42]
abbrev dktX3_copy_0 : List UInt8 := dkwX3_copy_0 ++ dktX3_copy_1
theorem dksX3_copy_0 : cX3_copy.data.toList.drop 0 = dktX3_copy_0 := by decide +kernel
theorem dksX3_copy_1 : cX3_copy.data.toList.drop 22 = dktX3_copy_1 := dk_seg dksX3_copy_0 22 rfl rfl
theorem dX3_copy_0 : decode cX3_copy 0 = .ok (.new 15, 3) := dk_187 0 15 (dk_at dksX3_copy_0 0 rfl rfl)
theorem dX3_copy_3 : decode cX3_copy 3 = .ok (.dup, 1) := dk_89 (dk_at dksX3_copy_0 3 rfl rfl)
theorem dX3_copy_4 : decode cX3_copy 4 = .ok (.invokespecial 20, 3) := dk_183 0 20 (dk_at dksX3_copy_0 4 rfl rfl)
theorem dX3_copy_7 : decode cX3_copy 7 = .ok (.astore_n 1, 1) := dk_76 (dk_at dksX3_copy_0 7 rfl rfl)
theorem dX3_copy_8 : decode cX3_copy 8 = .ok (.aload_n 1, 1) := dk_43 (dk_at dksX3_copy_0 8 rfl rfl)
theorem dX3_copy_9 : decode cX3_copy 9 = .ok (.getfield 14, 3) := dk_180 0 14 (dk_at dksX3_copy_0 9 rfl rfl)
theorem dX3_copy_12 : decode cX3_copy 12 = .ok (.aload_n 0, 1) := dk_42 (dk_at dksX3_copy_0 12 rfl rfl)
theorem dX3_copy_13 : decode cX3_copy 13 = .ok (.getfield 14, 3) := dk_180 0 14 (dk_at dksX3_copy_0 13 rfl rfl)
theorem dX3_copy_16 : decode cX3_copy 16 = .ok (.invokevirtual 21, 3) := dk_182 0 21 (dk_at dksX3_copy_0 16 rfl rfl)
theorem dX3_copy_19 : decode cX3_copy 19 = .ok (.pop, 1) := dk_87 (dk_at dksX3_copy_0 19 rfl rfl)
theorem dX3_copy_20 : decode cX3_copy 20 = .ok (.aload_n 1, 1) := dk_43 (dk_at dksX3_copy_0 20 rfl rfl)
theorem dX3_copy_21 : decode cX3_copy 21 = .ok (.aload_n 0, 1) := dk_42 (dk_at dksX3_copy_0 21 rfl rfl)
theorem dX3_copy_22 : decode cX3_copy 22 = .ok (.getfield 25, 3) := dk_180 0 25 (dk_at dksX3_copy_1 0 rfl rfl)
theorem dX3_copy_25 : decode cX3_copy 25 = .ok (.putfield 25, 3) := dk_181 0 25 (dk_at dksX3_copy_1 3 rfl rfl)
theorem dX3_copy_28 : decode cX3_copy 28 = .ok (.aload_n 1, 1) := dk_43 (dk_at dksX3_copy_1 6 rfl rfl)
theorem dX3_copy_29 : decode cX3_copy 29 = .ok (.areturn, 1) := dk_176 (dk_at dksX3_copy_1 7 rfl rfl)
abbrev cX3_init : ByteArray := prog_13_method_1_code
def yX3_init : MethodName := ⟨RX3, "<init>", "()V"⟩
def dkwX3_init_0 : List UInt8 := [42, 183, 0, 3, 42, 187, 0, 9, 89, 8, 183, 0, 11, 181, 0, 14, 177]
abbrev dktX3_init_0 : List UInt8 := dkwX3_init_0 ++ []
theorem dksX3_init_0 : cX3_init.data.toList.drop 0 = dktX3_init_0 := by decide +kernel
theorem dX3_init_0 : decode cX3_init 0 = .ok (.aload_n 0, 1) := dk_42 (dk_at dksX3_init_0 0 rfl rfl)
theorem dX3_init_1 : decode cX3_init 1 = .ok (.invokespecial 3, 3) := dk_183 0 3 (dk_at dksX3_init_0 1 rfl rfl)
theorem dX3_init_4 : decode cX3_init 4 = .ok (.aload_n 0, 1) := dk_42 (dk_at dksX3_init_0 4 rfl rfl)
theorem dX3_init_5 : decode cX3_init 5 = .ok (.new 9, 3) := dk_187 0 9 (dk_at dksX3_init_0 5 rfl rfl)
theorem dX3_init_8 : decode cX3_init 8 = .ok (.dup, 1) := dk_89 (dk_at dksX3_init_0 8 rfl rfl)
theorem dX3_init_9 : decode cX3_init 9 = .ok (.iconst 5, 1) := dk_8 (dk_at dksX3_init_0 9 rfl rfl)
theorem dX3_init_10 : decode cX3_init 10 = .ok (.invokespecial 11, 3) := dk_183 0 11 (dk_at dksX3_init_0 10 rfl rfl)
theorem dX3_init_13 : decode cX3_init 13 = .ok (.putfield 14, 3) := dk_181 0 14 (dk_at dksX3_init_0 13 rfl rfl)
theorem dX3_init_16 : decode cX3_init 16 = .ok (.return_, 1) := dk_177 (dk_at dksX3_init_0 16 rfl rfl)
abbrev cX3_hasSame : ByteArray := prog_13_method_7_code
def yX3_hasSame : MethodName := ⟨RX3, "hasSame", "(LVersionSolver$Version;)Z"⟩
def dkwX3_hasSame_1 : List UInt8 := [192, 0, 34, 78, 45, 43, 182, 0, 70, 153, 0, 5, 4, 172, 167, 255, 227, 3, 172]
abbrev dktX3_hasSame_1 : List UInt8 := dkwX3_hasSame_1 ++ []
def dkwX3_hasSame_0 : List UInt8 := [42, 180, 0, 14, 182, 0, 53, 77, 44, 185, 0, 57, 1, 0, 153, 0, 26, 44, 185, 0, 62, 1, 0]
abbrev dktX3_hasSame_0 : List UInt8 := dkwX3_hasSame_0 ++ dktX3_hasSame_1
theorem dksX3_hasSame_0 : cX3_hasSame.data.toList.drop 0 = dktX3_hasSame_0 := by decide +kernel
theorem dksX3_hasSame_1 : cX3_hasSame.data.toList.drop 23 = dktX3_hasSame_1 := dk_seg dksX3_hasSame_0 23 rfl rfl
theorem dX3_hasSame_0 : decode cX3_hasSame 0 = .ok (.aload_n 0, 1) := dk_42 (dk_at dksX3_hasSame_0 0 rfl rfl)
theorem dX3_hasSame_1 : decode cX3_hasSame 1 = .ok (.getfield 14, 3) := dk_180 0 14 (dk_at dksX3_hasSame_0 1 rfl rfl)
theorem dX3_hasSame_4 : decode cX3_hasSame 4 = .ok (.invokevirtual 53, 3) := dk_182 0 53 (dk_at dksX3_hasSame_0 4 rfl rfl)
theorem dX3_hasSame_7 : decode cX3_hasSame 7 = .ok (.astore_n 2, 1) := dk_77 (dk_at dksX3_hasSame_0 7 rfl rfl)
theorem dX3_hasSame_8 : decode cX3_hasSame 8 = .ok (.aload_n 2, 1) := dk_44 (dk_at dksX3_hasSame_0 8 rfl rfl)
theorem dX3_hasSame_9 : decode cX3_hasSame 9 = .ok (.invokeinterface 57 1, 5) := by decide +kernel
theorem dX3_hasSame_14 : decode cX3_hasSame 14 = .ok (.ifCond .eq 26, 3) := dk_153 0 26 (dk_at dksX3_hasSame_0 14 rfl rfl)
theorem dX3_hasSame_17 : decode cX3_hasSame 17 = .ok (.aload_n 2, 1) := dk_44 (dk_at dksX3_hasSame_0 17 rfl rfl)
theorem dX3_hasSame_18 : decode cX3_hasSame 18 = .ok (.invokeinterface 62 1, 5) := by decide +kernel
theorem dX3_hasSame_23 : decode cX3_hasSame 23 = .ok (.checkcast 34, 3) := dk_192 0 34 (dk_at dksX3_hasSame_1 0 rfl rfl)
theorem dX3_hasSame_26 : decode cX3_hasSame 26 = .ok (.astore_n 3, 1) := dk_78 (dk_at dksX3_hasSame_1 3 rfl rfl)
theorem dX3_hasSame_27 : decode cX3_hasSame 27 = .ok (.aload_n 3, 1) := dk_45 (dk_at dksX3_hasSame_1 4 rfl rfl)
theorem dX3_hasSame_28 : decode cX3_hasSame 28 = .ok (.aload_n 1, 1) := dk_43 (dk_at dksX3_hasSame_1 5 rfl rfl)
theorem dX3_hasSame_29 : decode cX3_hasSame 29 = .ok (.invokevirtual 70, 3) := dk_182 0 70 (dk_at dksX3_hasSame_1 6 rfl rfl)
theorem dX3_hasSame_32 : decode cX3_hasSame 32 = .ok (.ifCond .eq 5, 3) := dk_153 0 5 (dk_at dksX3_hasSame_1 9 rfl rfl)
theorem dX3_hasSame_35 : decode cX3_hasSame 35 = .ok (.iconst 1, 1) := dk_4 (dk_at dksX3_hasSame_1 12 rfl rfl)
theorem dX3_hasSame_36 : decode cX3_hasSame 36 = .ok (.ireturn, 1) := dk_172 (dk_at dksX3_hasSame_1 13 rfl rfl)
theorem dX3_hasSame_37 : decode cX3_hasSame 37 = .ok (.goto (-29), 3) := dk_167 255 227 (dk_at dksX3_hasSame_1 14 rfl rfl)
theorem dX3_hasSame_40 : decode cX3_hasSame 40 = .ok (.iconst 0, 1) := dk_3 (dk_at dksX3_hasSame_1 17 rfl rfl)
theorem dX3_hasSame_41 : decode cX3_hasSame 41 = .ok (.ireturn, 1) := dk_172 (dk_at dksX3_hasSame_1 18 rfl rfl)
abbrev cX3_placeOf : ByteArray := prog_13_method_6_code
def yX3_placeOf : MethodName := ⟨RX3, "placeOf", "(I)I"⟩
def dkwX3_placeOf_2 : List UInt8 := [182, 0, 66, 153, 0, 7, 4, 167, 0, 4, 3, 96, 61, 167, 255, 209, 28, 172]
abbrev dktX3_placeOf_2 : List UInt8 := dkwX3_placeOf_2 ++ []
def dkwX3_placeOf_1 : List UInt8 := [185, 0, 62, 1, 0, 192, 0, 34, 58, 4, 28, 25, 4, 42, 180, 0, 14, 27, 182, 0, 46, 192, 0, 34]
abbrev dktX3_placeOf_1 : List UInt8 := dkwX3_placeOf_1 ++ dktX3_placeOf_2
def dkwX3_placeOf_0 : List UInt8 := [3, 61, 42, 180, 0, 14, 182, 0, 53, 78, 45, 185, 0, 57, 1, 0, 153, 0, 44, 45]
abbrev dktX3_placeOf_0 : List UInt8 := dkwX3_placeOf_0 ++ dktX3_placeOf_1
theorem dksX3_placeOf_0 : cX3_placeOf.data.toList.drop 0 = dktX3_placeOf_0 := by decide +kernel
theorem dksX3_placeOf_1 : cX3_placeOf.data.toList.drop 20 = dktX3_placeOf_1 := dk_seg dksX3_placeOf_0 20 rfl rfl
theorem dksX3_placeOf_2 : cX3_placeOf.data.toList.drop 44 = dktX3_placeOf_2 := dk_seg dksX3_placeOf_1 24 rfl rfl
theorem dX3_placeOf_0 : decode cX3_placeOf 0 = .ok (.iconst 0, 1) := dk_3 (dk_at dksX3_placeOf_0 0 rfl rfl)
theorem dX3_placeOf_1 : decode cX3_placeOf 1 = .ok (.istore_n 2, 1) := dk_61 (dk_at dksX3_placeOf_0 1 rfl rfl)
theorem dX3_placeOf_2 : decode cX3_placeOf 2 = .ok (.aload_n 0, 1) := dk_42 (dk_at dksX3_placeOf_0 2 rfl rfl)
theorem dX3_placeOf_3 : decode cX3_placeOf 3 = .ok (.getfield 14, 3) := dk_180 0 14 (dk_at dksX3_placeOf_0 3 rfl rfl)
theorem dX3_placeOf_6 : decode cX3_placeOf 6 = .ok (.invokevirtual 53, 3) := dk_182 0 53 (dk_at dksX3_placeOf_0 6 rfl rfl)
theorem dX3_placeOf_9 : decode cX3_placeOf 9 = .ok (.astore_n 3, 1) := dk_78 (dk_at dksX3_placeOf_0 9 rfl rfl)
theorem dX3_placeOf_10 : decode cX3_placeOf 10 = .ok (.aload_n 3, 1) := dk_45 (dk_at dksX3_placeOf_0 10 rfl rfl)
theorem dX3_placeOf_11 : decode cX3_placeOf 11 = .ok (.invokeinterface 57 1, 5) := by decide +kernel
theorem dX3_placeOf_16 : decode cX3_placeOf 16 = .ok (.ifCond .eq 44, 3) := dk_153 0 44 (dk_at dksX3_placeOf_0 16 rfl rfl)
theorem dX3_placeOf_19 : decode cX3_placeOf 19 = .ok (.aload_n 3, 1) := dk_45 (dk_at dksX3_placeOf_0 19 rfl rfl)
theorem dX3_placeOf_20 : decode cX3_placeOf 20 = .ok (.invokeinterface 62 1, 5) := by decide +kernel
theorem dX3_placeOf_25 : decode cX3_placeOf 25 = .ok (.checkcast 34, 3) := dk_192 0 34 (dk_at dksX3_placeOf_1 5 rfl rfl)
theorem dX3_placeOf_28 : decode cX3_placeOf 28 = .ok (.astore 4, 2) := dk_58 4 (dk_at dksX3_placeOf_1 8 rfl rfl)
theorem dX3_placeOf_30 : decode cX3_placeOf 30 = .ok (.iload_n 2, 1) := dk_28 (dk_at dksX3_placeOf_1 10 rfl rfl)
theorem dX3_placeOf_31 : decode cX3_placeOf 31 = .ok (.aload 4, 2) := dk_25 4 (dk_at dksX3_placeOf_1 11 rfl rfl)
theorem dX3_placeOf_33 : decode cX3_placeOf 33 = .ok (.aload_n 0, 1) := dk_42 (dk_at dksX3_placeOf_1 13 rfl rfl)
theorem dX3_placeOf_34 : decode cX3_placeOf 34 = .ok (.getfield 14, 3) := dk_180 0 14 (dk_at dksX3_placeOf_1 14 rfl rfl)
theorem dX3_placeOf_37 : decode cX3_placeOf 37 = .ok (.iload_n 1, 1) := dk_27 (dk_at dksX3_placeOf_1 17 rfl rfl)
theorem dX3_placeOf_38 : decode cX3_placeOf 38 = .ok (.invokevirtual 46, 3) := dk_182 0 46 (dk_at dksX3_placeOf_1 18 rfl rfl)
theorem dX3_placeOf_41 : decode cX3_placeOf 41 = .ok (.checkcast 34, 3) := dk_192 0 34 (dk_at dksX3_placeOf_1 21 rfl rfl)
theorem dX3_placeOf_44 : decode cX3_placeOf 44 = .ok (.invokevirtual 66, 3) := dk_182 0 66 (dk_at dksX3_placeOf_2 0 rfl rfl)
theorem dX3_placeOf_47 : decode cX3_placeOf 47 = .ok (.ifCond .eq 7, 3) := dk_153 0 7 (dk_at dksX3_placeOf_2 3 rfl rfl)
theorem dX3_placeOf_50 : decode cX3_placeOf 50 = .ok (.iconst 1, 1) := dk_4 (dk_at dksX3_placeOf_2 6 rfl rfl)
theorem dX3_placeOf_51 : decode cX3_placeOf 51 = .ok (.goto 4, 3) := dk_167 0 4 (dk_at dksX3_placeOf_2 7 rfl rfl)
theorem dX3_placeOf_54 : decode cX3_placeOf 54 = .ok (.iconst 0, 1) := dk_3 (dk_at dksX3_placeOf_2 10 rfl rfl)
theorem dX3_placeOf_55 : decode cX3_placeOf 55 = .ok (.iadd, 1) := dk_96 (dk_at dksX3_placeOf_2 11 rfl rfl)
theorem dX3_placeOf_56 : decode cX3_placeOf 56 = .ok (.istore_n 2, 1) := dk_61 (dk_at dksX3_placeOf_2 12 rfl rfl)
theorem dX3_placeOf_57 : decode cX3_placeOf 57 = .ok (.goto (-47), 3) := dk_167 255 209 (dk_at dksX3_placeOf_2 13 rfl rfl)
theorem dX3_placeOf_60 : decode cX3_placeOf 60 = .ok (.iload_n 2, 1) := dk_28 (dk_at dksX3_placeOf_2 16 rfl rfl)
theorem dX3_placeOf_61 : decode cX3_placeOf 61 = .ok (.ireturn, 1) := dk_172 (dk_at dksX3_placeOf_2 17 rfl rfl)
abbrev cX3_covers : ByteArray := prog_13_method_4_code
def yX3_covers : MethodName := ⟨RX3, "covers", "(I)I"⟩
def dkwX3_covers_2 : List UInt8 := [132, 3, 1, 167, 255, 213, 28, 172]
abbrev dktX3_covers_2 : List UInt8 := dkwX3_covers_2 ++ []
def dkwX3_covers_1 : List UInt8 := [182, 0, 46, 192, 0, 34, 27, 182, 0, 50, 153, 0, 9, 4, 29, 120, 167, 0, 4, 3, 128, 61]
abbrev dktX3_covers_1 : List UInt8 := dkwX3_covers_1 ++ dktX3_covers_2
def dkwX3_covers_0 : List UInt8 := [3, 61, 3, 62, 29, 42, 180, 0, 14, 182, 0, 42, 162, 0, 38, 28, 42, 42, 180, 0, 14, 29]
abbrev dktX3_covers_0 : List UInt8 := dkwX3_covers_0 ++ dktX3_covers_1
theorem dksX3_covers_0 : cX3_covers.data.toList.drop 0 = dktX3_covers_0 := by decide +kernel
theorem dksX3_covers_1 : cX3_covers.data.toList.drop 22 = dktX3_covers_1 := dk_seg dksX3_covers_0 22 rfl rfl
theorem dksX3_covers_2 : cX3_covers.data.toList.drop 44 = dktX3_covers_2 := dk_seg dksX3_covers_1 22 rfl rfl
theorem dX3_covers_0 : decode cX3_covers 0 = .ok (.iconst 0, 1) := dk_3 (dk_at dksX3_covers_0 0 rfl rfl)
theorem dX3_covers_1 : decode cX3_covers 1 = .ok (.istore_n 2, 1) := dk_61 (dk_at dksX3_covers_0 1 rfl rfl)
theorem dX3_covers_2 : decode cX3_covers 2 = .ok (.iconst 0, 1) := dk_3 (dk_at dksX3_covers_0 2 rfl rfl)
theorem dX3_covers_3 : decode cX3_covers 3 = .ok (.istore_n 3, 1) := dk_62 (dk_at dksX3_covers_0 3 rfl rfl)
theorem dX3_covers_4 : decode cX3_covers 4 = .ok (.iload_n 3, 1) := dk_29 (dk_at dksX3_covers_0 4 rfl rfl)
theorem dX3_covers_5 : decode cX3_covers 5 = .ok (.aload_n 0, 1) := dk_42 (dk_at dksX3_covers_0 5 rfl rfl)
theorem dX3_covers_6 : decode cX3_covers 6 = .ok (.getfield 14, 3) := dk_180 0 14 (dk_at dksX3_covers_0 6 rfl rfl)
theorem dX3_covers_9 : decode cX3_covers 9 = .ok (.invokevirtual 42, 3) := dk_182 0 42 (dk_at dksX3_covers_0 9 rfl rfl)
theorem dX3_covers_12 : decode cX3_covers 12 = .ok (.if_icmp .ge 38, 3) := dk_162 0 38 (dk_at dksX3_covers_0 12 rfl rfl)
theorem dX3_covers_15 : decode cX3_covers 15 = .ok (.iload_n 2, 1) := dk_28 (dk_at dksX3_covers_0 15 rfl rfl)
theorem dX3_covers_16 : decode cX3_covers 16 = .ok (.aload_n 0, 1) := dk_42 (dk_at dksX3_covers_0 16 rfl rfl)
theorem dX3_covers_17 : decode cX3_covers 17 = .ok (.aload_n 0, 1) := dk_42 (dk_at dksX3_covers_0 17 rfl rfl)
theorem dX3_covers_18 : decode cX3_covers 18 = .ok (.getfield 14, 3) := dk_180 0 14 (dk_at dksX3_covers_0 18 rfl rfl)
theorem dX3_covers_21 : decode cX3_covers 21 = .ok (.iload_n 3, 1) := dk_29 (dk_at dksX3_covers_0 21 rfl rfl)
theorem dX3_covers_22 : decode cX3_covers 22 = .ok (.invokevirtual 46, 3) := dk_182 0 46 (dk_at dksX3_covers_1 0 rfl rfl)
theorem dX3_covers_25 : decode cX3_covers 25 = .ok (.checkcast 34, 3) := dk_192 0 34 (dk_at dksX3_covers_1 3 rfl rfl)
theorem dX3_covers_28 : decode cX3_covers 28 = .ok (.iload_n 1, 1) := dk_27 (dk_at dksX3_covers_1 6 rfl rfl)
theorem dX3_covers_29 : decode cX3_covers 29 = .ok (.invokevirtual 50, 3) := dk_182 0 50 (dk_at dksX3_covers_1 7 rfl rfl)
theorem dX3_covers_32 : decode cX3_covers 32 = .ok (.ifCond .eq 9, 3) := dk_153 0 9 (dk_at dksX3_covers_1 10 rfl rfl)
theorem dX3_covers_35 : decode cX3_covers 35 = .ok (.iconst 1, 1) := dk_4 (dk_at dksX3_covers_1 13 rfl rfl)
theorem dX3_covers_36 : decode cX3_covers 36 = .ok (.iload_n 3, 1) := dk_29 (dk_at dksX3_covers_1 14 rfl rfl)
theorem dX3_covers_37 : decode cX3_covers 37 = .ok (.ishl, 1) := dk_120 (dk_at dksX3_covers_1 15 rfl rfl)
theorem dX3_covers_38 : decode cX3_covers 38 = .ok (.goto 4, 3) := dk_167 0 4 (dk_at dksX3_covers_1 16 rfl rfl)
theorem dX3_covers_41 : decode cX3_covers 41 = .ok (.iconst 0, 1) := dk_3 (dk_at dksX3_covers_1 19 rfl rfl)
theorem dX3_covers_42 : decode cX3_covers 42 = .ok (.ior, 1) := dk_128 (dk_at dksX3_covers_1 20 rfl rfl)
theorem dX3_covers_43 : decode cX3_covers 43 = .ok (.istore_n 2, 1) := dk_61 (dk_at dksX3_covers_1 21 rfl rfl)
theorem dX3_covers_44 : decode cX3_covers 44 = .ok (.iinc 3 1, 3) := dk_132 3 1 (dk_at dksX3_covers_2 0 rfl rfl)
theorem dX3_covers_47 : decode cX3_covers 47 = .ok (.goto (-43), 3) := dk_167 255 213 (dk_at dksX3_covers_2 3 rfl rfl)
theorem dX3_covers_50 : decode cX3_covers 50 = .ok (.iload_n 2, 1) := dk_28 (dk_at dksX3_covers_2 6 rfl rfl)
theorem dX3_covers_51 : decode cX3_covers 51 = .ok (.ireturn, 1) := dk_172 (dk_at dksX3_covers_2 7 rfl rfl)
abbrev cX3_isIn : ByteArray := prog_13_method_3_code
def yX3_isIn : MethodName := ⟨RX3, "isIn", "(LVersionSolver$Version;I)Z"⟩
def dkwX3_isIn_1 : List UInt8 := [184, 0, 39, 153, 0, 7, 4, 167, 0, 4, 3, 172]
abbrev dktX3_isIn_1 : List UInt8 := dkwX3_isIn_1 ++ []
def dkwX3_isIn_0 : List UInt8 := [43, 28, 184, 0, 29, 153, 0, 29, 43, 182, 0, 33, 154, 0, 18, 42, 180, 0, 25, 154, 0, 11, 43, 28]
abbrev dktX3_isIn_0 : List UInt8 := dkwX3_isIn_0 ++ dktX3_isIn_1
theorem dksX3_isIn_0 : cX3_isIn.data.toList.drop 0 = dktX3_isIn_0 := by decide +kernel
theorem dksX3_isIn_1 : cX3_isIn.data.toList.drop 24 = dktX3_isIn_1 := dk_seg dksX3_isIn_0 24 rfl rfl
theorem dX3_isIn_0 : decode cX3_isIn 0 = .ok (.aload_n 1, 1) := dk_43 (dk_at dksX3_isIn_0 0 rfl rfl)
theorem dX3_isIn_1 : decode cX3_isIn 1 = .ok (.iload_n 2, 1) := dk_28 (dk_at dksX3_isIn_0 1 rfl rfl)
theorem dX3_isIn_2 : decode cX3_isIn 2 = .ok (.invokestatic 29, 3) := dk_184 0 29 (dk_at dksX3_isIn_0 2 rfl rfl)
theorem dX3_isIn_5 : decode cX3_isIn 5 = .ok (.ifCond .eq 29, 3) := dk_153 0 29 (dk_at dksX3_isIn_0 5 rfl rfl)
theorem dX3_isIn_8 : decode cX3_isIn 8 = .ok (.aload_n 1, 1) := dk_43 (dk_at dksX3_isIn_0 8 rfl rfl)
theorem dX3_isIn_9 : decode cX3_isIn 9 = .ok (.invokevirtual 33, 3) := dk_182 0 33 (dk_at dksX3_isIn_0 9 rfl rfl)
theorem dX3_isIn_12 : decode cX3_isIn 12 = .ok (.ifCond .ne 18, 3) := dk_154 0 18 (dk_at dksX3_isIn_0 12 rfl rfl)
theorem dX3_isIn_15 : decode cX3_isIn 15 = .ok (.aload_n 0, 1) := dk_42 (dk_at dksX3_isIn_0 15 rfl rfl)
theorem dX3_isIn_16 : decode cX3_isIn 16 = .ok (.getfield 25, 3) := dk_180 0 25 (dk_at dksX3_isIn_0 16 rfl rfl)
theorem dX3_isIn_19 : decode cX3_isIn 19 = .ok (.ifCond .ne 11, 3) := dk_154 0 11 (dk_at dksX3_isIn_0 19 rfl rfl)
theorem dX3_isIn_22 : decode cX3_isIn 22 = .ok (.aload_n 1, 1) := dk_43 (dk_at dksX3_isIn_0 22 rfl rfl)
theorem dX3_isIn_23 : decode cX3_isIn 23 = .ok (.iload_n 2, 1) := dk_28 (dk_at dksX3_isIn_0 23 rfl rfl)
theorem dX3_isIn_24 : decode cX3_isIn 24 = .ok (.invokestatic 39, 3) := dk_184 0 39 (dk_at dksX3_isIn_1 0 rfl rfl)
theorem dX3_isIn_27 : decode cX3_isIn 27 = .ok (.ifCond .eq 7, 3) := dk_153 0 7 (dk_at dksX3_isIn_1 3 rfl rfl)
theorem dX3_isIn_30 : decode cX3_isIn 30 = .ok (.iconst 1, 1) := dk_4 (dk_at dksX3_isIn_1 6 rfl rfl)
theorem dX3_isIn_31 : decode cX3_isIn 31 = .ok (.goto 4, 3) := dk_167 0 4 (dk_at dksX3_isIn_1 7 rfl rfl)
theorem dX3_isIn_34 : decode cX3_isIn 34 = .ok (.iconst 0, 1) := dk_3 (dk_at dksX3_isIn_1 10 rfl rfl)
theorem dX3_isIn_35 : decode cX3_isIn 35 = .ok (.ireturn, 1) := dk_172 (dk_at dksX3_isIn_1 11 rfl rfl)
abbrev cX3_rank : ByteArray := prog_13_method_9_code
def yX3_rank : MethodName := ⟨RX3, "rank", "(I)I"⟩
def dkwX3_rank_0 : List UInt8 := [27, 8, 160, 0, 7, 2, 167, 0, 8, 42, 27, 182, 0, 76, 172]
abbrev dktX3_rank_0 : List UInt8 := dkwX3_rank_0 ++ []
theorem dksX3_rank_0 : cX3_rank.data.toList.drop 0 = dktX3_rank_0 := by decide +kernel
theorem dX3_rank_0 : decode cX3_rank 0 = .ok (.iload_n 1, 1) := dk_27 (dk_at dksX3_rank_0 0 rfl rfl)
theorem dX3_rank_1 : decode cX3_rank 1 = .ok (.iconst 5, 1) := dk_8 (dk_at dksX3_rank_0 1 rfl rfl)
theorem dX3_rank_2 : decode cX3_rank 2 = .ok (.if_icmp .ne 7, 3) := dk_160 0 7 (dk_at dksX3_rank_0 2 rfl rfl)
theorem dX3_rank_5 : decode cX3_rank 5 = .ok (.iconst (-1), 1) := dk_2 (dk_at dksX3_rank_0 5 rfl rfl)
theorem dX3_rank_6 : decode cX3_rank 6 = .ok (.goto 8, 3) := dk_167 0 8 (dk_at dksX3_rank_0 6 rfl rfl)
theorem dX3_rank_9 : decode cX3_rank 9 = .ok (.aload_n 0, 1) := dk_42 (dk_at dksX3_rank_0 9 rfl rfl)
theorem dX3_rank_10 : decode cX3_rank 10 = .ok (.iload_n 1, 1) := dk_27 (dk_at dksX3_rank_0 10 rfl rfl)
theorem dX3_rank_11 : decode cX3_rank 11 = .ok (.invokevirtual 76, 3) := dk_182 0 76 (dk_at dksX3_rank_0 11 rfl rfl)
theorem dX3_rank_14 : decode cX3_rank 14 = .ok (.ireturn, 1) := dk_172 (dk_at dksX3_rank_0 14 rfl rfl)
abbrev cX3_all : ByteArray := prog_13_method_5_code
def yX3_all : MethodName := ⟨RX3, "all", "()I"⟩
def dkwX3_all_0 : List UInt8 := [4, 42, 180, 0, 14, 182, 0, 42, 120, 4, 100, 16, 32, 128, 172]
abbrev dktX3_all_0 : List UInt8 := dkwX3_all_0 ++ []
theorem dksX3_all_0 : cX3_all.data.toList.drop 0 = dktX3_all_0 := by decide +kernel
theorem dX3_all_0 : decode cX3_all 0 = .ok (.iconst 1, 1) := dk_4 (dk_at dksX3_all_0 0 rfl rfl)
theorem dX3_all_1 : decode cX3_all 1 = .ok (.aload_n 0, 1) := dk_42 (dk_at dksX3_all_0 1 rfl rfl)
theorem dX3_all_2 : decode cX3_all 2 = .ok (.getfield 14, 3) := dk_180 0 14 (dk_at dksX3_all_0 2 rfl rfl)
theorem dX3_all_5 : decode cX3_all 5 = .ok (.invokevirtual 42, 3) := dk_182 0 42 (dk_at dksX3_all_0 5 rfl rfl)
theorem dX3_all_8 : decode cX3_all 8 = .ok (.ishl, 1) := dk_120 (dk_at dksX3_all_0 8 rfl rfl)
theorem dX3_all_9 : decode cX3_all 9 = .ok (.iconst 1, 1) := dk_4 (dk_at dksX3_all_0 9 rfl rfl)
theorem dX3_all_10 : decode cX3_all 10 = .ok (.isub, 1) := dk_100 (dk_at dksX3_all_0 10 rfl rfl)
theorem dX3_all_11 : decode cX3_all 11 = .ok (.bipush 32, 2) := dk_16 32 (dk_at dksX3_all_0 11 rfl rfl)
theorem dX3_all_13 : decode cX3_all 13 = .ok (.ior, 1) := dk_128 (dk_at dksX3_all_0 13 rfl rfl)
theorem dX3_all_14 : decode cX3_all 14 = .ok (.ireturn, 1) := dk_172 (dk_at dksX3_all_0 14 rfl rfl)
abbrev cX3_isState : ByteArray := prog_13_method_8_code
def yX3_isState : MethodName := ⟨RX3, "isState", "(I)Z"⟩
def dkwX3_isState_1 : List UInt8 := [167, 0, 4, 3, 172]
abbrev dktX3_isState_1 : List UInt8 := dkwX3_isState_1 ++ []
def dkwX3_isState_0 : List UInt8 := [27, 8, 159, 0, 20, 27, 3, 42, 180, 0, 14, 182, 0, 42, 4, 100, 184, 0, 73, 153, 0, 7, 4]
abbrev dktX3_isState_0 : List UInt8 := dkwX3_isState_0 ++ dktX3_isState_1
theorem dksX3_isState_0 : cX3_isState.data.toList.drop 0 = dktX3_isState_0 := by decide +kernel
theorem dksX3_isState_1 : cX3_isState.data.toList.drop 23 = dktX3_isState_1 := dk_seg dksX3_isState_0 23 rfl rfl
theorem dX3_isState_0 : decode cX3_isState 0 = .ok (.iload_n 1, 1) := dk_27 (dk_at dksX3_isState_0 0 rfl rfl)
theorem dX3_isState_1 : decode cX3_isState 1 = .ok (.iconst 5, 1) := dk_8 (dk_at dksX3_isState_0 1 rfl rfl)
theorem dX3_isState_2 : decode cX3_isState 2 = .ok (.if_icmp .eq 20, 3) := dk_159 0 20 (dk_at dksX3_isState_0 2 rfl rfl)
theorem dX3_isState_5 : decode cX3_isState 5 = .ok (.iload_n 1, 1) := dk_27 (dk_at dksX3_isState_0 5 rfl rfl)
theorem dX3_isState_6 : decode cX3_isState 6 = .ok (.iconst 0, 1) := dk_3 (dk_at dksX3_isState_0 6 rfl rfl)
theorem dX3_isState_7 : decode cX3_isState 7 = .ok (.aload_n 0, 1) := dk_42 (dk_at dksX3_isState_0 7 rfl rfl)
theorem dX3_isState_8 : decode cX3_isState 8 = .ok (.getfield 14, 3) := dk_180 0 14 (dk_at dksX3_isState_0 8 rfl rfl)
theorem dX3_isState_11 : decode cX3_isState 11 = .ok (.invokevirtual 42, 3) := dk_182 0 42 (dk_at dksX3_isState_0 11 rfl rfl)
theorem dX3_isState_14 : decode cX3_isState 14 = .ok (.iconst 1, 1) := dk_4 (dk_at dksX3_isState_0 14 rfl rfl)
theorem dX3_isState_15 : decode cX3_isState 15 = .ok (.isub, 1) := dk_100 (dk_at dksX3_isState_0 15 rfl rfl)
theorem dX3_isState_16 : decode cX3_isState 16 = .ok (.invokestatic 73, 3) := dk_184 0 73 (dk_at dksX3_isState_0 16 rfl rfl)
theorem dX3_isState_19 : decode cX3_isState 19 = .ok (.ifCond .eq 7, 3) := dk_153 0 7 (dk_at dksX3_isState_0 19 rfl rfl)
theorem dX3_isState_22 : decode cX3_isState 22 = .ok (.iconst 1, 1) := dk_4 (dk_at dksX3_isState_0 22 rfl rfl)
theorem dX3_isState_23 : decode cX3_isState 23 = .ok (.goto 4, 3) := dk_167 0 4 (dk_at dksX3_isState_1 0 rfl rfl)
theorem dX3_isState_26 : decode cX3_isState 26 = .ok (.iconst 0, 1) := dk_3 (dk_at dksX3_isState_1 3 rfl rfl)
theorem dX3_isState_27 : decode cX3_isState 27 = .ok (.ireturn, 1) := dk_172 (dk_at dksX3_isState_1 4 rfl rfl)
theorem q102 : (Jvm.Cond.initialized "VersionSolver$Pack") ∈ lw_all := lw_g (lw_at lw_m1 13 rfl) rfl
theorem q341 : (Jvm.Cond.instanceMethod ({ cls := "VersionSolver$Pack", name := "copy", desc := "()LVersionSolver$Pack;" } : Jvm.MethodName)) ∈ lw_all := lw_g (lw_at lw_m2 12 rfl) rfl
theorem q342 : (Jvm.Cond.selects "VersionSolver$Pack" ({ cls := "VersionSolver$Pack", name := "copy", desc := "()LVersionSolver$Pack;" } : Jvm.MethodName) ({ cls := "VersionSolver$Pack", name := "copy", desc := "()LVersionSolver$Pack;" } : Jvm.MethodName)) ∈ lw_all := lw_g (lw_at lw_m2 13 rfl) rfl
theorem q343 : (Jvm.Cond.code ({ cls := "VersionSolver$Pack", name := "copy", desc := "()LVersionSolver$Pack;" } : Jvm.MethodName) prog_13_method_2_code (2 : Nat) (Option.some (Jvm.ClassFile.FieldType.object "VersionSolver$Pack"))) ∈ lw_all := lw_g (lw_at lw_m2 14 rfl) rfl
theorem q344 : (Jvm.Cond.classLink "VersionSolver$Pack" (15 : Nat) "VersionSolver$Pack") ∈ lw_all := lw_g (lw_at lw_m2 15 rfl) rfl
theorem q345 : (Jvm.Cond.instantiable "VersionSolver$Pack" (2 : Nat)) ∈ lw_all := lw_g (lw_at lw_m2 16 rfl) rfl
theorem q346 : (Jvm.Cond.methodLink "VersionSolver$Pack" (20 : Nat) ({ cls := "VersionSolver$Pack", name := "<init>", desc := "()V" } : Jvm.MethodName)) ∈ lw_all := lw_g (lw_at lw_m2 17 rfl) rfl
theorem q347 : (Jvm.Cond.instanceMethod ({ cls := "VersionSolver$Pack", name := "<init>", desc := "()V" } : Jvm.MethodName)) ∈ lw_all := lw_g (lw_at lw_m2 18 rfl) rfl
theorem q348 : (Jvm.Cond.code ({ cls := "VersionSolver$Pack", name := "<init>", desc := "()V" } : Jvm.MethodName) prog_13_method_1_code (1 : Nat) (Option.none : Option Jvm.ClassFile.FieldType)) ∈ lw_all := lw_g (lw_at lw_m2 19 rfl) rfl
theorem q349 : (Jvm.Cond.methodLink "VersionSolver$Pack" (3 : Nat) ({ cls := "java/lang/Object", name := "<init>", desc := "()V" } : Jvm.MethodName)) ∈ lw_all := lw_g (lw_at lw_m2 20 rfl) rfl
theorem q350 : (Jvm.Cond.classLink "VersionSolver$Pack" (9 : Nat) "java/util/ArrayList") ∈ lw_all := lw_g (lw_at lw_m2 21 rfl) rfl
theorem q351 : (Jvm.Cond.methodLink "VersionSolver$Pack" (11 : Nat) ({ cls := "java/util/ArrayList", name := "<init>", desc := "(I)V" } : Jvm.MethodName)) ∈ lw_all := lw_g (lw_at lw_m2 22 rfl) rfl
theorem q352 : (Jvm.Cond.fieldLink "VersionSolver$Pack" (14 : Nat) "VersionSolver$Pack" "versions" "Ljava/util/ArrayList;") ∈ lw_all := lw_g (lw_at lw_m2 23 rfl) rfl
theorem q355 : (Jvm.Cond.fieldLink "VersionSolver$Pack" (25 : Nat) "VersionSolver$Pack" "isOpen" "Z") ∈ lw_all := lw_g (lw_at lw_m2 26 rfl) rfl
theorem q357 : (Jvm.Cond.laysFinal "VersionSolver$Pack" "VersionSolver$Pack" "versions" "Ljava/util/ArrayList;") ∈ lw_all := lw_g (lw_at lw_m2 28 rfl) rfl
theorem q358 : (Jvm.Cond.soleField "VersionSolver$Pack" "versions") ∈ lw_all := lw_g (lw_at lw_m2 29 rfl) rfl
theorem q359 : (Jvm.Cond.lays "VersionSolver$Pack" "VersionSolver$Pack" "isOpen" "Z") ∈ lw_all := lw_g (lw_at lw_m2 30 rfl) rfl
theorem q360 : (Jvm.Cond.soleField "VersionSolver$Pack" "isOpen") ∈ lw_all := lw_g (lw_at lw_m2 31 rfl) rfl
theorem q361 : (Jvm.Cond.superclass "VersionSolver$Pack" "java/lang/Object") ∈ lw_all := lw_g (lw_at lw_m2 32 rfl) rfl
theorem q362 : (Jvm.Cond.methodLink "VersionSolver$Pack" (21 : Nat) ({ cls := "java/util/ArrayList", name := "addAll", desc := "(Ljava/util/Collection;)Z" } : Jvm.MethodName)) ∈ lw_all := lw_g (lw_at lw_m2 33 rfl) rfl
theorem q417 : (Jvm.Cond.selects "VersionSolver$Pack" ({ cls := "java/lang/Object", name := "getClass", desc := "()Ljava/lang/Class;" } : Jvm.MethodName) ({ cls := "java/lang/Object", name := "getClass", desc := "()Ljava/lang/Class;" } : Jvm.MethodName)) ∈ lw_all := lw_g (lw_at lw_m2 88 rfl) rfl
theorem q565 : (Jvm.Cond.instanceMethod ({ cls := "VersionSolver$Pack", name := "hasSame", desc := "(LVersionSolver$Version;)Z" } : Jvm.MethodName)) ∈ lw_all := lw_g (lw_at lw_m2 236 rfl) rfl
theorem q566 : (Jvm.Cond.selects "VersionSolver$Pack" ({ cls := "VersionSolver$Pack", name := "hasSame", desc := "(LVersionSolver$Version;)Z" } : Jvm.MethodName) ({ cls := "VersionSolver$Pack", name := "hasSame", desc := "(LVersionSolver$Version;)Z" } : Jvm.MethodName)) ∈ lw_all := lw_g (lw_at lw_m2 237 rfl) rfl
theorem q567 : (Jvm.Cond.code ({ cls := "VersionSolver$Pack", name := "hasSame", desc := "(LVersionSolver$Version;)Z" } : Jvm.MethodName) prog_13_method_7_code (4 : Nat) (Option.some Jvm.ClassFile.FieldType.boolean)) ∈ lw_all := lw_g (lw_at lw_m2 238 rfl) rfl
theorem q568 : (Jvm.Cond.methodLink "VersionSolver$Pack" (53 : Nat) ({ cls := "java/util/ArrayList", name := "iterator", desc := "()Ljava/util/Iterator;" } : Jvm.MethodName)) ∈ lw_all := lw_g (lw_at lw_m2 239 rfl) rfl
theorem q569 : (Jvm.Cond.interfaceEntry "VersionSolver$Pack" (57 : Nat)) ∈ lw_tbl := lw_at lw_m3 0 rfl
theorem q570 : (Jvm.Cond.methodLink "VersionSolver$Pack" (57 : Nat) ({ cls := "java/util/Iterator", name := "hasNext", desc := "()Z" } : Jvm.MethodName)) ∈ lw_all := lw_g (lw_at lw_m3 1 rfl) rfl
theorem q571 : (Jvm.Cond.interfaceEntry "VersionSolver$Pack" (62 : Nat)) ∈ lw_tbl := lw_at lw_m3 2 rfl
theorem q572 : (Jvm.Cond.methodLink "VersionSolver$Pack" (62 : Nat) ({ cls := "java/util/Iterator", name := "next", desc := "()Ljava/lang/Object;" } : Jvm.MethodName)) ∈ lw_all := lw_g (lw_at lw_m3 3 rfl) rfl
theorem q573 : (Jvm.Cond.classLink "VersionSolver$Pack" (34 : Nat) "VersionSolver$Version") ∈ lw_all := lw_g (lw_at lw_m3 4 rfl) rfl
theorem q574 : (Jvm.Cond.methodLink "VersionSolver$Pack" (70 : Nat) ({ cls := "VersionSolver$Version", name := "isSame", desc := "(LVersionSolver$Version;)Z" } : Jvm.MethodName)) ∈ lw_all := lw_g (lw_at lw_m3 5 rfl) rfl
theorem q609 : (Jvm.Cond.instanceMethod ({ cls := "VersionSolver$Pack", name := "placeOf", desc := "(I)I" } : Jvm.MethodName)) ∈ lw_all := lw_g (lw_at lw_m3 40 rfl) rfl
theorem q610 : (Jvm.Cond.selects "VersionSolver$Pack" ({ cls := "VersionSolver$Pack", name := "placeOf", desc := "(I)I" } : Jvm.MethodName) ({ cls := "VersionSolver$Pack", name := "placeOf", desc := "(I)I" } : Jvm.MethodName)) ∈ lw_all := lw_g (lw_at lw_m3 41 rfl) rfl
theorem q611 : (Jvm.Cond.code ({ cls := "VersionSolver$Pack", name := "placeOf", desc := "(I)I" } : Jvm.MethodName) prog_13_method_6_code (5 : Nat) (Option.some Jvm.ClassFile.FieldType.int)) ∈ lw_all := lw_g (lw_at lw_m3 42 rfl) rfl
theorem q612 : (Jvm.Cond.methodLink "VersionSolver$Pack" (46 : Nat) ({ cls := "java/util/ArrayList", name := "get", desc := "(I)Ljava/lang/Object;" } : Jvm.MethodName)) ∈ lw_all := lw_g (lw_at lw_m3 43 rfl) rfl
theorem q613 : (Jvm.Cond.methodLink "VersionSolver$Pack" (66 : Nat) ({ cls := "VersionSolver$Version", name := "isBefore", desc := "(LVersionSolver$Version;)Z" } : Jvm.MethodName)) ∈ lw_all := lw_g (lw_at lw_m3 44 rfl) rfl
theorem q645 : (Jvm.Cond.instanceMethod ({ cls := "VersionSolver$Pack", name := "covers", desc := "(I)I" } : Jvm.MethodName)) ∈ lw_all := lw_g (lw_at lw_m3 76 rfl) rfl
theorem q646 : (Jvm.Cond.selects "VersionSolver$Pack" ({ cls := "VersionSolver$Pack", name := "covers", desc := "(I)I" } : Jvm.MethodName) ({ cls := "VersionSolver$Pack", name := "covers", desc := "(I)I" } : Jvm.MethodName)) ∈ lw_all := lw_g (lw_at lw_m3 77 rfl) rfl
theorem q647 : (Jvm.Cond.code ({ cls := "VersionSolver$Pack", name := "covers", desc := "(I)I" } : Jvm.MethodName) prog_13_method_4_code (4 : Nat) (Option.some Jvm.ClassFile.FieldType.int)) ∈ lw_all := lw_g (lw_at lw_m3 78 rfl) rfl
theorem q648 : (Jvm.Cond.methodLink "VersionSolver$Pack" (42 : Nat) ({ cls := "java/util/ArrayList", name := "size", desc := "()I" } : Jvm.MethodName)) ∈ lw_all := lw_g (lw_at lw_m3 79 rfl) rfl
theorem q649 : (Jvm.Cond.methodLink "VersionSolver$Pack" (50 : Nat) ({ cls := "VersionSolver$Pack", name := "isIn", desc := "(LVersionSolver$Version;I)Z" } : Jvm.MethodName)) ∈ lw_all := lw_g (lw_at lw_m3 80 rfl) rfl
theorem q650 : (Jvm.Cond.instanceMethod ({ cls := "VersionSolver$Pack", name := "isIn", desc := "(LVersionSolver$Version;I)Z" } : Jvm.MethodName)) ∈ lw_all := lw_g (lw_at lw_m3 81 rfl) rfl
theorem q651 : (Jvm.Cond.selects "VersionSolver$Pack" ({ cls := "VersionSolver$Pack", name := "isIn", desc := "(LVersionSolver$Version;I)Z" } : Jvm.MethodName) ({ cls := "VersionSolver$Pack", name := "isIn", desc := "(LVersionSolver$Version;I)Z" } : Jvm.MethodName)) ∈ lw_all := lw_g (lw_at lw_m3 82 rfl) rfl
theorem q652 : (Jvm.Cond.code ({ cls := "VersionSolver$Pack", name := "isIn", desc := "(LVersionSolver$Version;I)Z" } : Jvm.MethodName) prog_13_method_3_code (3 : Nat) (Option.some Jvm.ClassFile.FieldType.boolean)) ∈ lw_all := lw_g (lw_at lw_m3 83 rfl) rfl
theorem q653 : (Jvm.Cond.methodLinkNest "VersionSolver$Pack" (29 : Nat) ({ cls := "VersionSolver", name := "satisfies", desc := "(LVersionSolver$Version;I)Z" } : Jvm.MethodName) "VersionSolver") ∈ lw_tbl := lw_at lw_m3 84 rfl
theorem q666 : (Jvm.Cond.methodLink "VersionSolver$Pack" (33 : Nat) ({ cls := "VersionSolver$Version", name := "isRelease", desc := "()Z" } : Jvm.MethodName)) ∈ lw_all := lw_g (lw_at lw_m3 97 rfl) rfl
theorem q667 : (Jvm.Cond.methodLinkNest "VersionSolver$Pack" (39 : Nat) ({ cls := "VersionSolver", name := "namesLine", desc := "(LVersionSolver$Version;I)Z" } : Jvm.MethodName) "VersionSolver") ∈ lw_tbl := lw_at lw_m3 98 rfl
theorem q680 : (Jvm.Cond.instanceMethod ({ cls := "VersionSolver$Pack", name := "rank", desc := "(I)I" } : Jvm.MethodName)) ∈ lw_all := lw_g (lw_at lw_m3 111 rfl) rfl
theorem q681 : (Jvm.Cond.selects "VersionSolver$Pack" ({ cls := "VersionSolver$Pack", name := "rank", desc := "(I)I" } : Jvm.MethodName) ({ cls := "VersionSolver$Pack", name := "rank", desc := "(I)I" } : Jvm.MethodName)) ∈ lw_all := lw_g (lw_at lw_m3 112 rfl) rfl
theorem q682 : (Jvm.Cond.code ({ cls := "VersionSolver$Pack", name := "rank", desc := "(I)I" } : Jvm.MethodName) prog_13_method_9_code (2 : Nat) (Option.some Jvm.ClassFile.FieldType.int)) ∈ lw_all := lw_g (lw_at lw_m3 113 rfl) rfl
theorem q683 : (Jvm.Cond.methodLink "VersionSolver$Pack" (76 : Nat) ({ cls := "VersionSolver$Pack", name := "placeOf", desc := "(I)I" } : Jvm.MethodName)) ∈ lw_all := lw_g (lw_at lw_m3 114 rfl) rfl
theorem q890 : (Jvm.Cond.instanceMethod ({ cls := "VersionSolver$Pack", name := "all", desc := "()I" } : Jvm.MethodName)) ∈ lw_all := lw_g (lw_at lw_m4 81 rfl) rfl
theorem q891 : (Jvm.Cond.selects "VersionSolver$Pack" ({ cls := "VersionSolver$Pack", name := "all", desc := "()I" } : Jvm.MethodName) ({ cls := "VersionSolver$Pack", name := "all", desc := "()I" } : Jvm.MethodName)) ∈ lw_all := lw_g (lw_at lw_m4 82 rfl) rfl
theorem q892 : (Jvm.Cond.code ({ cls := "VersionSolver$Pack", name := "all", desc := "()I" } : Jvm.MethodName) prog_13_method_5_code (1 : Nat) (Option.some Jvm.ClassFile.FieldType.int)) ∈ lw_all := lw_g (lw_at lw_m4 83 rfl) rfl
theorem q1042 : (Jvm.Cond.instanceMethod ({ cls := "VersionSolver$Pack", name := "isState", desc := "(I)Z" } : Jvm.MethodName)) ∈ lw_all := lw_g (lw_at lw_m4 233 rfl) rfl
theorem q1043 : (Jvm.Cond.selects "VersionSolver$Pack" ({ cls := "VersionSolver$Pack", name := "isState", desc := "(I)Z" } : Jvm.MethodName) ({ cls := "VersionSolver$Pack", name := "isState", desc := "(I)Z" } : Jvm.MethodName)) ∈ lw_all := lw_g (lw_at lw_m4 234 rfl) rfl
theorem q1044 : (Jvm.Cond.code ({ cls := "VersionSolver$Pack", name := "isState", desc := "(I)Z" } : Jvm.MethodName) prog_13_method_8_code (2 : Nat) (Option.some Jvm.ClassFile.FieldType.boolean)) ∈ lw_all := lw_g (lw_at lw_m4 235 rfl) rfl
theorem q1045 : (Jvm.Cond.methodLinkNest "VersionSolver$Pack" (73 : Nat) ({ cls := "VersionSolver", name := "isIn", desc := "(III)Z" } : Jvm.MethodName) "VersionSolver") ∈ lw_tbl := lw_at lw_m4 236 rfl
theorem q2509 : (Jvm.Cond.castable "VersionSolver$Pack" "java/lang/Object") ∈ lw_tbl := lw_at lw_m11 20 rfl
theorem in_X3 : ∀ w ∈ wsX30, w ∈ lw_all := lw_in wsX30 [357, 359] (by decide +kernel) (by decide +kernel)
/-! VersionSolver$Version -/
set_option maxRecDepth 100000
def RX4 : String := "VersionSolver$Version"
def TX4 : u_T := fun k => match k with
  | 0 => ("VersionSolver$Version", "major", "I", true)
  | 1 => ("VersionSolver$Version", "minor", "I", true)
  | _ => ("VersionSolver$Version", "pre", "I", true)
def tyX4 : Nat → FieldType := fun k => match k with
  | 0 => .int
  | 1 => .int
  | _ => .int
abbrev wsX40 : List Cond := u_ws RX4 TX4 3
theorem nmX4 : ∀ a, a < 3 → ∀ b, b < 3 → a ≠ b → (TX4 a).2.1 ≠ (TX4 b).2.1 := by decide +kernel
theorem tyX4_ok : ∀ k, k < 3 → parseFieldDescriptor (TX4 k).2.2.1 = some (tyX4 k) := by decide +kernel
abbrev cX4_init : ByteArray := prog_20_method_1_code
def yX4_init : MethodName := ⟨RX4, "<init>", "(III)V"⟩
def dkwX4_init_0 : List UInt8 := [42, 183, 0, 1, 42, 27, 181, 0, 7, 42, 28, 181, 0, 13, 42, 29, 181, 0, 16, 177]
abbrev dktX4_init_0 : List UInt8 := dkwX4_init_0 ++ []
theorem dksX4_init_0 : cX4_init.data.toList.drop 0 = dktX4_init_0 := by decide +kernel
theorem dX4_init_0 : decode cX4_init 0 = .ok (.aload_n 0, 1) := dk_42 (dk_at dksX4_init_0 0 rfl rfl)
theorem dX4_init_1 : decode cX4_init 1 = .ok (.invokespecial 1, 3) := dk_183 0 1 (dk_at dksX4_init_0 1 rfl rfl)
theorem dX4_init_4 : decode cX4_init 4 = .ok (.aload_n 0, 1) := dk_42 (dk_at dksX4_init_0 4 rfl rfl)
theorem dX4_init_5 : decode cX4_init 5 = .ok (.iload_n 1, 1) := dk_27 (dk_at dksX4_init_0 5 rfl rfl)
theorem dX4_init_6 : decode cX4_init 6 = .ok (.putfield 7, 3) := dk_181 0 7 (dk_at dksX4_init_0 6 rfl rfl)
theorem dX4_init_9 : decode cX4_init 9 = .ok (.aload_n 0, 1) := dk_42 (dk_at dksX4_init_0 9 rfl rfl)
theorem dX4_init_10 : decode cX4_init 10 = .ok (.iload_n 2, 1) := dk_28 (dk_at dksX4_init_0 10 rfl rfl)
theorem dX4_init_11 : decode cX4_init 11 = .ok (.putfield 13, 3) := dk_181 0 13 (dk_at dksX4_init_0 11 rfl rfl)
theorem dX4_init_14 : decode cX4_init 14 = .ok (.aload_n 0, 1) := dk_42 (dk_at dksX4_init_0 14 rfl rfl)
theorem dX4_init_15 : decode cX4_init 15 = .ok (.iload_n 3, 1) := dk_29 (dk_at dksX4_init_0 15 rfl rfl)
theorem dX4_init_16 : decode cX4_init 16 = .ok (.putfield 16, 3) := dk_181 0 16 (dk_at dksX4_init_0 16 rfl rfl)
theorem dX4_init_19 : decode cX4_init 19 = .ok (.return_, 1) := dk_177 (dk_at dksX4_init_0 19 rfl rfl)
abbrev cX4_isSame : ByteArray := prog_20_method_6_code
def yX4_isSame : MethodName := ⟨RX4, "isSame", "(LVersionSolver$Version;)Z"⟩
def dkwX4_isSame_0 : List UInt8 := [42, 182, 0, 26, 43, 182, 0, 26, 160, 0, 7, 4, 167, 0, 4, 3, 172]
abbrev dktX4_isSame_0 : List UInt8 := dkwX4_isSame_0 ++ []
theorem dksX4_isSame_0 : cX4_isSame.data.toList.drop 0 = dktX4_isSame_0 := by decide +kernel
theorem dX4_isSame_0 : decode cX4_isSame 0 = .ok (.aload_n 0, 1) := dk_42 (dk_at dksX4_isSame_0 0 rfl rfl)
theorem dX4_isSame_1 : decode cX4_isSame 1 = .ok (.invokevirtual 26, 3) := dk_182 0 26 (dk_at dksX4_isSame_0 1 rfl rfl)
theorem dX4_isSame_4 : decode cX4_isSame 4 = .ok (.aload_n 1, 1) := dk_43 (dk_at dksX4_isSame_0 4 rfl rfl)
theorem dX4_isSame_5 : decode cX4_isSame 5 = .ok (.invokevirtual 26, 3) := dk_182 0 26 (dk_at dksX4_isSame_0 5 rfl rfl)
theorem dX4_isSame_8 : decode cX4_isSame 8 = .ok (.if_icmp .ne 7, 3) := dk_160 0 7 (dk_at dksX4_isSame_0 8 rfl rfl)
theorem dX4_isSame_11 : decode cX4_isSame 11 = .ok (.iconst 1, 1) := dk_4 (dk_at dksX4_isSame_0 11 rfl rfl)
theorem dX4_isSame_12 : decode cX4_isSame 12 = .ok (.goto 4, 3) := dk_167 0 4 (dk_at dksX4_isSame_0 12 rfl rfl)
theorem dX4_isSame_15 : decode cX4_isSame 15 = .ok (.iconst 0, 1) := dk_3 (dk_at dksX4_isSame_0 15 rfl rfl)
theorem dX4_isSame_16 : decode cX4_isSame 16 = .ok (.ireturn, 1) := dk_172 (dk_at dksX4_isSame_0 16 rfl rfl)
abbrev cX4_weight : ByteArray := prog_20_method_4_code
def yX4_weight : MethodName := ⟨RX4, "weight", "()I"⟩
def dkwX4_weight_1 : List UInt8 := [167, 0, 7, 42, 180, 0, 16, 96, 172]
abbrev dktX4_weight_1 : List UInt8 := dkwX4_weight_1 ++ []
def dkwX4_weight_0 : List UInt8 := [16, 110, 42, 180, 0, 7, 104, 16, 11, 42, 180, 0, 13, 104, 96, 42, 182, 0, 22, 153, 0, 8, 16, 10]
abbrev dktX4_weight_0 : List UInt8 := dkwX4_weight_0 ++ dktX4_weight_1
theorem dksX4_weight_0 : cX4_weight.data.toList.drop 0 = dktX4_weight_0 := by decide +kernel
theorem dksX4_weight_1 : cX4_weight.data.toList.drop 24 = dktX4_weight_1 := dk_seg dksX4_weight_0 24 rfl rfl
theorem dX4_weight_0 : decode cX4_weight 0 = .ok (.bipush 110, 2) := dk_16 110 (dk_at dksX4_weight_0 0 rfl rfl)
theorem dX4_weight_2 : decode cX4_weight 2 = .ok (.aload_n 0, 1) := dk_42 (dk_at dksX4_weight_0 2 rfl rfl)
theorem dX4_weight_3 : decode cX4_weight 3 = .ok (.getfield 7, 3) := dk_180 0 7 (dk_at dksX4_weight_0 3 rfl rfl)
theorem dX4_weight_6 : decode cX4_weight 6 = .ok (.imul, 1) := dk_104 (dk_at dksX4_weight_0 6 rfl rfl)
theorem dX4_weight_7 : decode cX4_weight 7 = .ok (.bipush 11, 2) := dk_16 11 (dk_at dksX4_weight_0 7 rfl rfl)
theorem dX4_weight_9 : decode cX4_weight 9 = .ok (.aload_n 0, 1) := dk_42 (dk_at dksX4_weight_0 9 rfl rfl)
theorem dX4_weight_10 : decode cX4_weight 10 = .ok (.getfield 13, 3) := dk_180 0 13 (dk_at dksX4_weight_0 10 rfl rfl)
theorem dX4_weight_13 : decode cX4_weight 13 = .ok (.imul, 1) := dk_104 (dk_at dksX4_weight_0 13 rfl rfl)
theorem dX4_weight_14 : decode cX4_weight 14 = .ok (.iadd, 1) := dk_96 (dk_at dksX4_weight_0 14 rfl rfl)
theorem dX4_weight_15 : decode cX4_weight 15 = .ok (.aload_n 0, 1) := dk_42 (dk_at dksX4_weight_0 15 rfl rfl)
theorem dX4_weight_16 : decode cX4_weight 16 = .ok (.invokevirtual 22, 3) := dk_182 0 22 (dk_at dksX4_weight_0 16 rfl rfl)
theorem dX4_weight_19 : decode cX4_weight 19 = .ok (.ifCond .eq 8, 3) := dk_153 0 8 (dk_at dksX4_weight_0 19 rfl rfl)
theorem dX4_weight_22 : decode cX4_weight 22 = .ok (.bipush 10, 2) := dk_16 10 (dk_at dksX4_weight_0 22 rfl rfl)
theorem dX4_weight_24 : decode cX4_weight 24 = .ok (.goto 7, 3) := dk_167 0 7 (dk_at dksX4_weight_1 0 rfl rfl)
theorem dX4_weight_27 : decode cX4_weight 27 = .ok (.aload_n 0, 1) := dk_42 (dk_at dksX4_weight_1 3 rfl rfl)
theorem dX4_weight_28 : decode cX4_weight 28 = .ok (.getfield 16, 3) := dk_180 0 16 (dk_at dksX4_weight_1 4 rfl rfl)
theorem dX4_weight_31 : decode cX4_weight 31 = .ok (.iadd, 1) := dk_96 (dk_at dksX4_weight_1 7 rfl rfl)
theorem dX4_weight_32 : decode cX4_weight 32 = .ok (.ireturn, 1) := dk_172 (dk_at dksX4_weight_1 8 rfl rfl)
abbrev cX4_isRelease : ByteArray := prog_20_method_3_code
def yX4_isRelease : MethodName := ⟨RX4, "isRelease", "()Z"⟩
def dkwX4_isRelease_0 : List UInt8 := [42, 180, 0, 16, 154, 0, 7, 4, 167, 0, 4, 3, 172]
abbrev dktX4_isRelease_0 : List UInt8 := dkwX4_isRelease_0 ++ []
theorem dksX4_isRelease_0 : cX4_isRelease.data.toList.drop 0 = dktX4_isRelease_0 := by decide +kernel
theorem dX4_isRelease_0 : decode cX4_isRelease 0 = .ok (.aload_n 0, 1) := dk_42 (dk_at dksX4_isRelease_0 0 rfl rfl)
theorem dX4_isRelease_1 : decode cX4_isRelease 1 = .ok (.getfield 16, 3) := dk_180 0 16 (dk_at dksX4_isRelease_0 1 rfl rfl)
theorem dX4_isRelease_4 : decode cX4_isRelease 4 = .ok (.ifCond .ne 7, 3) := dk_154 0 7 (dk_at dksX4_isRelease_0 4 rfl rfl)
theorem dX4_isRelease_7 : decode cX4_isRelease 7 = .ok (.iconst 1, 1) := dk_4 (dk_at dksX4_isRelease_0 7 rfl rfl)
theorem dX4_isRelease_8 : decode cX4_isRelease 8 = .ok (.goto 4, 3) := dk_167 0 4 (dk_at dksX4_isRelease_0 8 rfl rfl)
theorem dX4_isRelease_11 : decode cX4_isRelease 11 = .ok (.iconst 0, 1) := dk_3 (dk_at dksX4_isRelease_0 11 rfl rfl)
theorem dX4_isRelease_12 : decode cX4_isRelease 12 = .ok (.ireturn, 1) := dk_172 (dk_at dksX4_isRelease_0 12 rfl rfl)
abbrev cX4_number : ByteArray := prog_20_method_8_code
def yX4_number : MethodName := ⟨RX4, "number", "(I)I"⟩
def dkwX4_number_1 : List UInt8 := [180, 0, 16, 172]
abbrev dktX4_number_1 : List UInt8 := dkwX4_number_1 ++ []
def dkwX4_number_0 : List UInt8 := [27, 154, 0, 10, 42, 180, 0, 7, 167, 0, 19, 27, 4, 160, 0, 10, 42, 180, 0, 13, 167, 0, 7, 42]
abbrev dktX4_number_0 : List UInt8 := dkwX4_number_0 ++ dktX4_number_1
theorem dksX4_number_0 : cX4_number.data.toList.drop 0 = dktX4_number_0 := by decide +kernel
theorem dksX4_number_1 : cX4_number.data.toList.drop 24 = dktX4_number_1 := dk_seg dksX4_number_0 24 rfl rfl
theorem dX4_number_0 : decode cX4_number 0 = .ok (.iload_n 1, 1) := dk_27 (dk_at dksX4_number_0 0 rfl rfl)
theorem dX4_number_1 : decode cX4_number 1 = .ok (.ifCond .ne 10, 3) := dk_154 0 10 (dk_at dksX4_number_0 1 rfl rfl)
theorem dX4_number_4 : decode cX4_number 4 = .ok (.aload_n 0, 1) := dk_42 (dk_at dksX4_number_0 4 rfl rfl)
theorem dX4_number_5 : decode cX4_number 5 = .ok (.getfield 7, 3) := dk_180 0 7 (dk_at dksX4_number_0 5 rfl rfl)
theorem dX4_number_8 : decode cX4_number 8 = .ok (.goto 19, 3) := dk_167 0 19 (dk_at dksX4_number_0 8 rfl rfl)
theorem dX4_number_11 : decode cX4_number 11 = .ok (.iload_n 1, 1) := dk_27 (dk_at dksX4_number_0 11 rfl rfl)
theorem dX4_number_12 : decode cX4_number 12 = .ok (.iconst 1, 1) := dk_4 (dk_at dksX4_number_0 12 rfl rfl)
theorem dX4_number_13 : decode cX4_number 13 = .ok (.if_icmp .ne 10, 3) := dk_160 0 10 (dk_at dksX4_number_0 13 rfl rfl)
theorem dX4_number_16 : decode cX4_number 16 = .ok (.aload_n 0, 1) := dk_42 (dk_at dksX4_number_0 16 rfl rfl)
theorem dX4_number_17 : decode cX4_number 17 = .ok (.getfield 13, 3) := dk_180 0 13 (dk_at dksX4_number_0 17 rfl rfl)
theorem dX4_number_20 : decode cX4_number 20 = .ok (.goto 7, 3) := dk_167 0 7 (dk_at dksX4_number_0 20 rfl rfl)
theorem dX4_number_23 : decode cX4_number 23 = .ok (.aload_n 0, 1) := dk_42 (dk_at dksX4_number_0 23 rfl rfl)
theorem dX4_number_24 : decode cX4_number 24 = .ok (.getfield 16, 3) := dk_180 0 16 (dk_at dksX4_number_1 0 rfl rfl)
theorem dX4_number_27 : decode cX4_number 27 = .ok (.ireturn, 1) := dk_172 (dk_at dksX4_number_1 3 rfl rfl)
abbrev cX4_isBefore : ByteArray := prog_20_method_5_code
def yX4_isBefore : MethodName := ⟨RX4, "isBefore", "(LVersionSolver$Version;)Z"⟩
def dkwX4_isBefore_0 : List UInt8 := [42, 182, 0, 26, 43, 182, 0, 26, 162, 0, 7, 4, 167, 0, 4, 3, 172]
abbrev dktX4_isBefore_0 : List UInt8 := dkwX4_isBefore_0 ++ []
theorem dksX4_isBefore_0 : cX4_isBefore.data.toList.drop 0 = dktX4_isBefore_0 := by decide +kernel
theorem dX4_isBefore_0 : decode cX4_isBefore 0 = .ok (.aload_n 0, 1) := dk_42 (dk_at dksX4_isBefore_0 0 rfl rfl)
theorem dX4_isBefore_1 : decode cX4_isBefore 1 = .ok (.invokevirtual 26, 3) := dk_182 0 26 (dk_at dksX4_isBefore_0 1 rfl rfl)
theorem dX4_isBefore_4 : decode cX4_isBefore 4 = .ok (.aload_n 1, 1) := dk_43 (dk_at dksX4_isBefore_0 4 rfl rfl)
theorem dX4_isBefore_5 : decode cX4_isBefore 5 = .ok (.invokevirtual 26, 3) := dk_182 0 26 (dk_at dksX4_isBefore_0 5 rfl rfl)
theorem dX4_isBefore_8 : decode cX4_isBefore 8 = .ok (.if_icmp .ge 7, 3) := dk_162 0 7 (dk_at dksX4_isBefore_0 8 rfl rfl)
theorem dX4_isBefore_11 : decode cX4_isBefore 11 = .ok (.iconst 1, 1) := dk_4 (dk_at dksX4_isBefore_0 11 rfl rfl)
theorem dX4_isBefore_12 : decode cX4_isBefore 12 = .ok (.goto 4, 3) := dk_167 0 4 (dk_at dksX4_isBefore_0 12 rfl rfl)
theorem dX4_isBefore_15 : decode cX4_isBefore 15 = .ok (.iconst 0, 1) := dk_3 (dk_at dksX4_isBefore_0 15 rfl rfl)
theorem dX4_isBefore_16 : decode cX4_isBefore 16 = .ok (.ireturn, 1) := dk_172 (dk_at dksX4_isBefore_0 16 rfl rfl)
abbrev cX4_init_2 : ByteArray := prog_20_method_2_code
def yX4_init_2 : MethodName := ⟨RX4, "<init>", "(I)V"⟩
def dkwX4_init_2_0 : List UInt8 := [42, 27, 16, 100, 108, 16, 10, 112, 27, 16, 10, 108, 16, 10, 112, 27, 16, 10, 112, 183, 0, 19, 177]
abbrev dktX4_init_2_0 : List UInt8 := dkwX4_init_2_0 ++ []
theorem dksX4_init_2_0 : cX4_init_2.data.toList.drop 0 = dktX4_init_2_0 := by decide +kernel
theorem dX4_init_2_0 : decode cX4_init_2 0 = .ok (.aload_n 0, 1) := dk_42 (dk_at dksX4_init_2_0 0 rfl rfl)
theorem dX4_init_2_1 : decode cX4_init_2 1 = .ok (.iload_n 1, 1) := dk_27 (dk_at dksX4_init_2_0 1 rfl rfl)
theorem dX4_init_2_2 : decode cX4_init_2 2 = .ok (.bipush 100, 2) := dk_16 100 (dk_at dksX4_init_2_0 2 rfl rfl)
theorem dX4_init_2_4 : decode cX4_init_2 4 = .ok (.idiv, 1) := dk_108 (dk_at dksX4_init_2_0 4 rfl rfl)
theorem dX4_init_2_5 : decode cX4_init_2 5 = .ok (.bipush 10, 2) := dk_16 10 (dk_at dksX4_init_2_0 5 rfl rfl)
theorem dX4_init_2_7 : decode cX4_init_2 7 = .ok (.irem, 1) := dk_112 (dk_at dksX4_init_2_0 7 rfl rfl)
theorem dX4_init_2_8 : decode cX4_init_2 8 = .ok (.iload_n 1, 1) := dk_27 (dk_at dksX4_init_2_0 8 rfl rfl)
theorem dX4_init_2_9 : decode cX4_init_2 9 = .ok (.bipush 10, 2) := dk_16 10 (dk_at dksX4_init_2_0 9 rfl rfl)
theorem dX4_init_2_11 : decode cX4_init_2 11 = .ok (.idiv, 1) := dk_108 (dk_at dksX4_init_2_0 11 rfl rfl)
theorem dX4_init_2_12 : decode cX4_init_2 12 = .ok (.bipush 10, 2) := dk_16 10 (dk_at dksX4_init_2_0 12 rfl rfl)
theorem dX4_init_2_14 : decode cX4_init_2 14 = .ok (.irem, 1) := dk_112 (dk_at dksX4_init_2_0 14 rfl rfl)
theorem dX4_init_2_15 : decode cX4_init_2 15 = .ok (.iload_n 1, 1) := dk_27 (dk_at dksX4_init_2_0 15 rfl rfl)
theorem dX4_init_2_16 : decode cX4_init_2 16 = .ok (.bipush 10, 2) := dk_16 10 (dk_at dksX4_init_2_0 16 rfl rfl)
theorem dX4_init_2_18 : decode cX4_init_2 18 = .ok (.irem, 1) := dk_112 (dk_at dksX4_init_2_0 18 rfl rfl)
theorem dX4_init_2_19 : decode cX4_init_2 19 = .ok (.invokespecial 19, 3) := dk_183 0 19 (dk_at dksX4_init_2_0 19 rfl rfl)
theorem dX4_init_2_22 : decode cX4_init_2 22 = .ok (.return_, 1) := dk_177 (dk_at dksX4_init_2_0 22 rfl rfl)
abbrev cX4_isOfLine : ByteArray := prog_20_method_7_code
def yX4_isOfLine : MethodName := ⟨RX4, "isOfLine", "(LVersionSolver$Version;)Z"⟩
def dkwX4_isOfLine_1 : List UInt8 := [167, 0, 4, 3, 172]
abbrev dktX4_isOfLine_1 : List UInt8 := dkwX4_isOfLine_1 ++ []
def dkwX4_isOfLine_0 : List UInt8 := [42, 180, 0, 7, 43, 180, 0, 7, 160, 0, 18, 42, 180, 0, 13, 43, 180, 0, 13, 160, 0, 7, 4]
abbrev dktX4_isOfLine_0 : List UInt8 := dkwX4_isOfLine_0 ++ dktX4_isOfLine_1
theorem dksX4_isOfLine_0 : cX4_isOfLine.data.toList.drop 0 = dktX4_isOfLine_0 := by decide +kernel
theorem dksX4_isOfLine_1 : cX4_isOfLine.data.toList.drop 23 = dktX4_isOfLine_1 := dk_seg dksX4_isOfLine_0 23 rfl rfl
theorem dX4_isOfLine_0 : decode cX4_isOfLine 0 = .ok (.aload_n 0, 1) := dk_42 (dk_at dksX4_isOfLine_0 0 rfl rfl)
theorem dX4_isOfLine_1 : decode cX4_isOfLine 1 = .ok (.getfield 7, 3) := dk_180 0 7 (dk_at dksX4_isOfLine_0 1 rfl rfl)
theorem dX4_isOfLine_4 : decode cX4_isOfLine 4 = .ok (.aload_n 1, 1) := dk_43 (dk_at dksX4_isOfLine_0 4 rfl rfl)
theorem dX4_isOfLine_5 : decode cX4_isOfLine 5 = .ok (.getfield 7, 3) := dk_180 0 7 (dk_at dksX4_isOfLine_0 5 rfl rfl)
theorem dX4_isOfLine_8 : decode cX4_isOfLine 8 = .ok (.if_icmp .ne 18, 3) := dk_160 0 18 (dk_at dksX4_isOfLine_0 8 rfl rfl)
theorem dX4_isOfLine_11 : decode cX4_isOfLine 11 = .ok (.aload_n 0, 1) := dk_42 (dk_at dksX4_isOfLine_0 11 rfl rfl)
theorem dX4_isOfLine_12 : decode cX4_isOfLine 12 = .ok (.getfield 13, 3) := dk_180 0 13 (dk_at dksX4_isOfLine_0 12 rfl rfl)
theorem dX4_isOfLine_15 : decode cX4_isOfLine 15 = .ok (.aload_n 1, 1) := dk_43 (dk_at dksX4_isOfLine_0 15 rfl rfl)
theorem dX4_isOfLine_16 : decode cX4_isOfLine 16 = .ok (.getfield 13, 3) := dk_180 0 13 (dk_at dksX4_isOfLine_0 16 rfl rfl)
theorem dX4_isOfLine_19 : decode cX4_isOfLine 19 = .ok (.if_icmp .ne 7, 3) := dk_160 0 7 (dk_at dksX4_isOfLine_0 19 rfl rfl)
theorem dX4_isOfLine_22 : decode cX4_isOfLine 22 = .ok (.iconst 1, 1) := dk_4 (dk_at dksX4_isOfLine_0 22 rfl rfl)
theorem dX4_isOfLine_23 : decode cX4_isOfLine 23 = .ok (.goto 4, 3) := dk_167 0 4 (dk_at dksX4_isOfLine_1 0 rfl rfl)
theorem dX4_isOfLine_26 : decode cX4_isOfLine 26 = .ok (.iconst 0, 1) := dk_3 (dk_at dksX4_isOfLine_1 3 rfl rfl)
theorem dX4_isOfLine_27 : decode cX4_isOfLine 27 = .ok (.ireturn, 1) := dk_172 (dk_at dksX4_isOfLine_1 4 rfl rfl)
abbrev cX4_text : ByteArray := prog_20_method_9_code
def yX4_text : MethodName := ⟨RX4, "text", "()Ljava/lang/String;"⟩
def dkwX4_text_2 : List UInt8 := [182, 0, 33, 87, 43, 182, 0, 40, 176]
abbrev dktX4_text_2 : List UInt8 := dkwX4_text_2 ++ []
def dkwX4_text_1 : List UInt8 := [180, 0, 13, 182, 0, 33, 87, 42, 182, 0, 22, 154, 0, 17, 43, 16, 45, 182, 0, 37, 42, 180, 0, 16]
abbrev dktX4_text_1 : List UInt8 := dkwX4_text_1 ++ dktX4_text_2
def dkwX4_text_0 : List UInt8 := [187, 0, 30, 89, 183, 0, 32, 76, 43, 42, 180, 0, 7, 182, 0, 33, 16, 46, 182, 0, 37, 42]
abbrev dktX4_text_0 : List UInt8 := dkwX4_text_0 ++ dktX4_text_1
theorem dksX4_text_0 : cX4_text.data.toList.drop 0 = dktX4_text_0 := by decide +kernel
theorem dksX4_text_1 : cX4_text.data.toList.drop 22 = dktX4_text_1 := dk_seg dksX4_text_0 22 rfl rfl
theorem dksX4_text_2 : cX4_text.data.toList.drop 46 = dktX4_text_2 := dk_seg dksX4_text_1 24 rfl rfl
theorem dX4_text_0 : decode cX4_text 0 = .ok (.new 30, 3) := dk_187 0 30 (dk_at dksX4_text_0 0 rfl rfl)
theorem dX4_text_3 : decode cX4_text 3 = .ok (.dup, 1) := dk_89 (dk_at dksX4_text_0 3 rfl rfl)
theorem dX4_text_4 : decode cX4_text 4 = .ok (.invokespecial 32, 3) := dk_183 0 32 (dk_at dksX4_text_0 4 rfl rfl)
theorem dX4_text_7 : decode cX4_text 7 = .ok (.astore_n 1, 1) := dk_76 (dk_at dksX4_text_0 7 rfl rfl)
theorem dX4_text_8 : decode cX4_text 8 = .ok (.aload_n 1, 1) := dk_43 (dk_at dksX4_text_0 8 rfl rfl)
theorem dX4_text_9 : decode cX4_text 9 = .ok (.aload_n 0, 1) := dk_42 (dk_at dksX4_text_0 9 rfl rfl)
theorem dX4_text_10 : decode cX4_text 10 = .ok (.getfield 7, 3) := dk_180 0 7 (dk_at dksX4_text_0 10 rfl rfl)
theorem dX4_text_13 : decode cX4_text 13 = .ok (.invokevirtual 33, 3) := dk_182 0 33 (dk_at dksX4_text_0 13 rfl rfl)
theorem dX4_text_16 : decode cX4_text 16 = .ok (.bipush 46, 2) := dk_16 46 (dk_at dksX4_text_0 16 rfl rfl)
theorem dX4_text_18 : decode cX4_text 18 = .ok (.invokevirtual 37, 3) := dk_182 0 37 (dk_at dksX4_text_0 18 rfl rfl)
theorem dX4_text_21 : decode cX4_text 21 = .ok (.aload_n 0, 1) := dk_42 (dk_at dksX4_text_0 21 rfl rfl)
theorem dX4_text_22 : decode cX4_text 22 = .ok (.getfield 13, 3) := dk_180 0 13 (dk_at dksX4_text_1 0 rfl rfl)
theorem dX4_text_25 : decode cX4_text 25 = .ok (.invokevirtual 33, 3) := dk_182 0 33 (dk_at dksX4_text_1 3 rfl rfl)
theorem dX4_text_28 : decode cX4_text 28 = .ok (.pop, 1) := dk_87 (dk_at dksX4_text_1 6 rfl rfl)
theorem dX4_text_29 : decode cX4_text 29 = .ok (.aload_n 0, 1) := dk_42 (dk_at dksX4_text_1 7 rfl rfl)
theorem dX4_text_30 : decode cX4_text 30 = .ok (.invokevirtual 22, 3) := dk_182 0 22 (dk_at dksX4_text_1 8 rfl rfl)
theorem dX4_text_33 : decode cX4_text 33 = .ok (.ifCond .ne 17, 3) := dk_154 0 17 (dk_at dksX4_text_1 11 rfl rfl)
theorem dX4_text_36 : decode cX4_text 36 = .ok (.aload_n 1, 1) := dk_43 (dk_at dksX4_text_1 14 rfl rfl)
theorem dX4_text_37 : decode cX4_text 37 = .ok (.bipush 45, 2) := dk_16 45 (dk_at dksX4_text_1 15 rfl rfl)
theorem dX4_text_39 : decode cX4_text 39 = .ok (.invokevirtual 37, 3) := dk_182 0 37 (dk_at dksX4_text_1 17 rfl rfl)
theorem dX4_text_42 : decode cX4_text 42 = .ok (.aload_n 0, 1) := dk_42 (dk_at dksX4_text_1 20 rfl rfl)
theorem dX4_text_43 : decode cX4_text 43 = .ok (.getfield 16, 3) := dk_180 0 16 (dk_at dksX4_text_1 21 rfl rfl)
theorem dX4_text_46 : decode cX4_text 46 = .ok (.invokevirtual 33, 3) := dk_182 0 33 (dk_at dksX4_text_2 0 rfl rfl)
theorem dX4_text_49 : decode cX4_text 49 = .ok (.pop, 1) := dk_87 (dk_at dksX4_text_2 3 rfl rfl)
theorem dX4_text_50 : decode cX4_text 50 = .ok (.aload_n 1, 1) := dk_43 (dk_at dksX4_text_2 4 rfl rfl)
theorem dX4_text_51 : decode cX4_text 51 = .ok (.invokevirtual 40, 3) := dk_182 0 40 (dk_at dksX4_text_2 5 rfl rfl)
theorem dX4_text_54 : decode cX4_text 54 = .ok (.areturn, 1) := dk_176 (dk_at dksX4_text_2 8 rfl rfl)
theorem q109 : (Jvm.Cond.initialized "VersionSolver$Version") ∈ lw_all := lw_g (lw_at lw_m1 20 rfl) rfl
theorem q421 : (Jvm.Cond.selects "VersionSolver$Version" ({ cls := "java/lang/Object", name := "getClass", desc := "()Ljava/lang/Class;" } : Jvm.MethodName) ({ cls := "java/lang/Object", name := "getClass", desc := "()Ljava/lang/Class;" } : Jvm.MethodName)) ∈ lw_all := lw_g (lw_at lw_m2 92 rfl) rfl
theorem q547 : (Jvm.Cond.instantiable "VersionSolver$Version" (3 : Nat)) ∈ lw_all := lw_g (lw_at lw_m2 218 rfl) rfl
theorem q549 : (Jvm.Cond.instanceMethod ({ cls := "VersionSolver$Version", name := "<init>", desc := "(III)V" } : Jvm.MethodName)) ∈ lw_all := lw_g (lw_at lw_m2 220 rfl) rfl
theorem q550 : (Jvm.Cond.code ({ cls := "VersionSolver$Version", name := "<init>", desc := "(III)V" } : Jvm.MethodName) prog_20_method_1_code (4 : Nat) (Option.none : Option Jvm.ClassFile.FieldType)) ∈ lw_all := lw_g (lw_at lw_m2 221 rfl) rfl
theorem q551 : (Jvm.Cond.methodLink "VersionSolver$Version" (1 : Nat) ({ cls := "java/lang/Object", name := "<init>", desc := "()V" } : Jvm.MethodName)) ∈ lw_all := lw_g (lw_at lw_m2 222 rfl) rfl
theorem q552 : (Jvm.Cond.fieldLink "VersionSolver$Version" (7 : Nat) "VersionSolver$Version" "major" "I") ∈ lw_all := lw_g (lw_at lw_m2 223 rfl) rfl
theorem q554 : (Jvm.Cond.fieldLink "VersionSolver$Version" (13 : Nat) "VersionSolver$Version" "minor" "I") ∈ lw_all := lw_g (lw_at lw_m2 225 rfl) rfl
theorem q555 : (Jvm.Cond.fieldLink "VersionSolver$Version" (16 : Nat) "VersionSolver$Version" "pre" "I") ∈ lw_all := lw_g (lw_at lw_m2 226 rfl) rfl
theorem q556 : (Jvm.Cond.laysFinal "VersionSolver$Version" "VersionSolver$Version" "major" "I") ∈ lw_all := lw_g (lw_at lw_m2 227 rfl) rfl
theorem q557 : (Jvm.Cond.soleField "VersionSolver$Version" "major") ∈ lw_all := lw_g (lw_at lw_m2 228 rfl) rfl
theorem q558 : (Jvm.Cond.laysFinal "VersionSolver$Version" "VersionSolver$Version" "minor" "I") ∈ lw_all := lw_g (lw_at lw_m2 229 rfl) rfl
theorem q559 : (Jvm.Cond.soleField "VersionSolver$Version" "minor") ∈ lw_all := lw_g (lw_at lw_m2 230 rfl) rfl
theorem q560 : (Jvm.Cond.laysFinal "VersionSolver$Version" "VersionSolver$Version" "pre" "I") ∈ lw_all := lw_g (lw_at lw_m2 231 rfl) rfl
theorem q561 : (Jvm.Cond.soleField "VersionSolver$Version" "pre") ∈ lw_all := lw_g (lw_at lw_m2 232 rfl) rfl
theorem q562 : (Jvm.Cond.superclass "VersionSolver$Version" "java/lang/Object") ∈ lw_all := lw_g (lw_at lw_m2 233 rfl) rfl
theorem q575 : (Jvm.Cond.instanceMethod ({ cls := "VersionSolver$Version", name := "isSame", desc := "(LVersionSolver$Version;)Z" } : Jvm.MethodName)) ∈ lw_all := lw_g (lw_at lw_m3 6 rfl) rfl
theorem q576 : (Jvm.Cond.selects "VersionSolver$Version" ({ cls := "VersionSolver$Version", name := "isSame", desc := "(LVersionSolver$Version;)Z" } : Jvm.MethodName) ({ cls := "VersionSolver$Version", name := "isSame", desc := "(LVersionSolver$Version;)Z" } : Jvm.MethodName)) ∈ lw_all := lw_g (lw_at lw_m3 7 rfl) rfl
theorem q577 : (Jvm.Cond.code ({ cls := "VersionSolver$Version", name := "isSame", desc := "(LVersionSolver$Version;)Z" } : Jvm.MethodName) prog_20_method_6_code (2 : Nat) (Option.some Jvm.ClassFile.FieldType.boolean)) ∈ lw_all := lw_g (lw_at lw_m3 8 rfl) rfl
theorem q578 : (Jvm.Cond.methodLink "VersionSolver$Version" (26 : Nat) ({ cls := "VersionSolver$Version", name := "weight", desc := "()I" } : Jvm.MethodName)) ∈ lw_all := lw_g (lw_at lw_m3 9 rfl) rfl
theorem q579 : (Jvm.Cond.privateMethod ({ cls := "VersionSolver$Version", name := "weight", desc := "()I" } : Jvm.MethodName)) ∈ lw_tbl := lw_at lw_m3 10 rfl
theorem q580 : (Jvm.Cond.instanceMethod ({ cls := "VersionSolver$Version", name := "weight", desc := "()I" } : Jvm.MethodName)) ∈ lw_all := lw_g (lw_at lw_m3 11 rfl) rfl
theorem q581 : (Jvm.Cond.code ({ cls := "VersionSolver$Version", name := "weight", desc := "()I" } : Jvm.MethodName) prog_20_method_4_code (1 : Nat) (Option.some Jvm.ClassFile.FieldType.int)) ∈ lw_all := lw_g (lw_at lw_m3 12 rfl) rfl
theorem q582 : (Jvm.Cond.methodLink "VersionSolver$Version" (22 : Nat) ({ cls := "VersionSolver$Version", name := "isRelease", desc := "()Z" } : Jvm.MethodName)) ∈ lw_all := lw_g (lw_at lw_m3 13 rfl) rfl
theorem q583 : (Jvm.Cond.instanceMethod ({ cls := "VersionSolver$Version", name := "isRelease", desc := "()Z" } : Jvm.MethodName)) ∈ lw_all := lw_g (lw_at lw_m3 14 rfl) rfl
theorem q584 : (Jvm.Cond.selects "VersionSolver$Version" ({ cls := "VersionSolver$Version", name := "isRelease", desc := "()Z" } : Jvm.MethodName) ({ cls := "VersionSolver$Version", name := "isRelease", desc := "()Z" } : Jvm.MethodName)) ∈ lw_all := lw_g (lw_at lw_m3 15 rfl) rfl
theorem q585 : (Jvm.Cond.code ({ cls := "VersionSolver$Version", name := "isRelease", desc := "()Z" } : Jvm.MethodName) prog_20_method_3_code (1 : Nat) (Option.some Jvm.ClassFile.FieldType.boolean)) ∈ lw_all := lw_g (lw_at lw_m3 16 rfl) rfl
theorem q605 : (Jvm.Cond.instanceMethod ({ cls := "VersionSolver$Version", name := "number", desc := "(I)I" } : Jvm.MethodName)) ∈ lw_all := lw_g (lw_at lw_m3 36 rfl) rfl
theorem q606 : (Jvm.Cond.selects "VersionSolver$Version" ({ cls := "VersionSolver$Version", name := "number", desc := "(I)I" } : Jvm.MethodName) ({ cls := "VersionSolver$Version", name := "number", desc := "(I)I" } : Jvm.MethodName)) ∈ lw_all := lw_g (lw_at lw_m3 37 rfl) rfl
theorem q607 : (Jvm.Cond.code ({ cls := "VersionSolver$Version", name := "number", desc := "(I)I" } : Jvm.MethodName) prog_20_method_8_code (2 : Nat) (Option.some Jvm.ClassFile.FieldType.int)) ∈ lw_all := lw_g (lw_at lw_m3 38 rfl) rfl
theorem q614 : (Jvm.Cond.instanceMethod ({ cls := "VersionSolver$Version", name := "isBefore", desc := "(LVersionSolver$Version;)Z" } : Jvm.MethodName)) ∈ lw_all := lw_g (lw_at lw_m3 45 rfl) rfl
theorem q615 : (Jvm.Cond.selects "VersionSolver$Version" ({ cls := "VersionSolver$Version", name := "isBefore", desc := "(LVersionSolver$Version;)Z" } : Jvm.MethodName) ({ cls := "VersionSolver$Version", name := "isBefore", desc := "(LVersionSolver$Version;)Z" } : Jvm.MethodName)) ∈ lw_all := lw_g (lw_at lw_m3 46 rfl) rfl
theorem q616 : (Jvm.Cond.code ({ cls := "VersionSolver$Version", name := "isBefore", desc := "(LVersionSolver$Version;)Z" } : Jvm.MethodName) prog_20_method_5_code (2 : Nat) (Option.some Jvm.ClassFile.FieldType.boolean)) ∈ lw_all := lw_g (lw_at lw_m3 47 rfl) rfl
theorem q657 : (Jvm.Cond.instanceMethod ({ cls := "VersionSolver$Version", name := "<init>", desc := "(I)V" } : Jvm.MethodName)) ∈ lw_all := lw_g (lw_at lw_m3 88 rfl) rfl
theorem q658 : (Jvm.Cond.code ({ cls := "VersionSolver$Version", name := "<init>", desc := "(I)V" } : Jvm.MethodName) prog_20_method_2_code (2 : Nat) (Option.none : Option Jvm.ClassFile.FieldType)) ∈ lw_all := lw_g (lw_at lw_m3 89 rfl) rfl
theorem q659 : (Jvm.Cond.methodLink "VersionSolver$Version" (19 : Nat) ({ cls := "VersionSolver$Version", name := "<init>", desc := "(III)V" } : Jvm.MethodName)) ∈ lw_all := lw_g (lw_at lw_m3 90 rfl) rfl
theorem q663 : (Jvm.Cond.instanceMethod ({ cls := "VersionSolver$Version", name := "isOfLine", desc := "(LVersionSolver$Version;)Z" } : Jvm.MethodName)) ∈ lw_all := lw_g (lw_at lw_m3 94 rfl) rfl
theorem q664 : (Jvm.Cond.selects "VersionSolver$Version" ({ cls := "VersionSolver$Version", name := "isOfLine", desc := "(LVersionSolver$Version;)Z" } : Jvm.MethodName) ({ cls := "VersionSolver$Version", name := "isOfLine", desc := "(LVersionSolver$Version;)Z" } : Jvm.MethodName)) ∈ lw_all := lw_g (lw_at lw_m3 95 rfl) rfl
theorem q665 : (Jvm.Cond.code ({ cls := "VersionSolver$Version", name := "isOfLine", desc := "(LVersionSolver$Version;)Z" } : Jvm.MethodName) prog_20_method_7_code (2 : Nat) (Option.some Jvm.ClassFile.FieldType.boolean)) ∈ lw_all := lw_g (lw_at lw_m3 96 rfl) rfl
theorem q1884 : (Jvm.Cond.instanceMethod ({ cls := "VersionSolver$Version", name := "text", desc := "()Ljava/lang/String;" } : Jvm.MethodName)) ∈ lw_all := lw_g (lw_at lw_m8 115 rfl) rfl
theorem q1885 : (Jvm.Cond.selects "VersionSolver$Version" ({ cls := "VersionSolver$Version", name := "text", desc := "()Ljava/lang/String;" } : Jvm.MethodName) ({ cls := "VersionSolver$Version", name := "text", desc := "()Ljava/lang/String;" } : Jvm.MethodName)) ∈ lw_all := lw_g (lw_at lw_m8 116 rfl) rfl
theorem q1886 : (Jvm.Cond.code ({ cls := "VersionSolver$Version", name := "text", desc := "()Ljava/lang/String;" } : Jvm.MethodName) prog_20_method_9_code (2 : Nat) (Option.some (Jvm.ClassFile.FieldType.object "java/lang/String"))) ∈ lw_all := lw_g (lw_at lw_m8 117 rfl) rfl
theorem q1887 : (Jvm.Cond.classLink "VersionSolver$Version" (30 : Nat) "java/lang/StringBuilder") ∈ lw_all := lw_g (lw_at lw_m8 118 rfl) rfl
theorem q1888 : (Jvm.Cond.methodLink "VersionSolver$Version" (32 : Nat) ({ cls := "java/lang/StringBuilder", name := "<init>", desc := "()V" } : Jvm.MethodName)) ∈ lw_all := lw_g (lw_at lw_m8 119 rfl) rfl
theorem q1889 : (Jvm.Cond.methodLink "VersionSolver$Version" (33 : Nat) ({ cls := "java/lang/StringBuilder", name := "append", desc := "(I)Ljava/lang/StringBuilder;" } : Jvm.MethodName)) ∈ lw_all := lw_g (lw_at lw_m8 120 rfl) rfl
theorem q1890 : (Jvm.Cond.methodLink "VersionSolver$Version" (37 : Nat) ({ cls := "java/lang/StringBuilder", name := "append", desc := "(C)Ljava/lang/StringBuilder;" } : Jvm.MethodName)) ∈ lw_all := lw_g (lw_at lw_m8 121 rfl) rfl
theorem q1891 : (Jvm.Cond.methodLink "VersionSolver$Version" (40 : Nat) ({ cls := "java/lang/StringBuilder", name := "toString", desc := "()Ljava/lang/String;" } : Jvm.MethodName)) ∈ lw_all := lw_g (lw_at lw_m8 122 rfl) rfl
theorem q2510 : (Jvm.Cond.castable "VersionSolver$Version" "java/lang/Object") ∈ lw_tbl := lw_at lw_m11 21 rfl
theorem in_X4 : ∀ w ∈ wsX40, w ∈ lw_all := lw_in wsX40 [556, 558, 560] (by decide +kernel) (by decide +kernel)
/-! VersionSolver$Rule -/
set_option maxRecDepth 100000
def RX5 : String := "VersionSolver$Rule"
abbrev cX5_isOf : ByteArray := prog_15_method_11_code
def yX5_isOf : MethodName := ⟨RX5, "isOf", "(II)Z"⟩
theorem dX5_isOf_0 : decode cX5_isOf 0 = .ok (.iconst 0, 1) := by decide +kernel
theorem dX5_isOf_1 : decode cX5_isOf 1 = .ok (.ireturn, 1) := by decide +kernel
abbrev cX5_init : ByteArray := prog_15_method_1_code
def yX5_init : MethodName := ⟨RX5, "<init>", "([I)V"⟩
def dkwX5_init_1 : List UInt8 := [181, 0, 18, 42, 43, 6, 46, 181, 0, 21, 177]
abbrev dktX5_init_1 : List UInt8 := dkwX5_init_1 ++ []
def dkwX5_init_0 : List UInt8 := [42, 183, 0, 3, 42, 43, 3, 46, 181, 0, 9, 42, 43, 4, 46, 181, 0, 15, 42, 43, 5, 46]
abbrev dktX5_init_0 : List UInt8 := dkwX5_init_0 ++ dktX5_init_1
theorem dksX5_init_0 : cX5_init.data.toList.drop 0 = dktX5_init_0 := by decide +kernel
theorem dksX5_init_1 : cX5_init.data.toList.drop 22 = dktX5_init_1 := dk_seg dksX5_init_0 22 rfl rfl
theorem dX5_init_0 : decode cX5_init 0 = .ok (.aload_n 0, 1) := dk_42 (dk_at dksX5_init_0 0 rfl rfl)
theorem dX5_init_1 : decode cX5_init 1 = .ok (.invokespecial 3, 3) := dk_183 0 3 (dk_at dksX5_init_0 1 rfl rfl)
theorem dX5_init_4 : decode cX5_init 4 = .ok (.aload_n 0, 1) := dk_42 (dk_at dksX5_init_0 4 rfl rfl)
theorem dX5_init_5 : decode cX5_init 5 = .ok (.aload_n 1, 1) := dk_43 (dk_at dksX5_init_0 5 rfl rfl)
theorem dX5_init_6 : decode cX5_init 6 = .ok (.iconst 0, 1) := dk_3 (dk_at dksX5_init_0 6 rfl rfl)
theorem dX5_init_7 : decode cX5_init 7 = .ok (.iaload, 1) := dk_46 (dk_at dksX5_init_0 7 rfl rfl)
theorem dX5_init_8 : decode cX5_init 8 = .ok (.putfield 9, 3) := dk_181 0 9 (dk_at dksX5_init_0 8 rfl rfl)
theorem dX5_init_11 : decode cX5_init 11 = .ok (.aload_n 0, 1) := dk_42 (dk_at dksX5_init_0 11 rfl rfl)
theorem dX5_init_12 : decode cX5_init 12 = .ok (.aload_n 1, 1) := dk_43 (dk_at dksX5_init_0 12 rfl rfl)
theorem dX5_init_13 : decode cX5_init 13 = .ok (.iconst 1, 1) := dk_4 (dk_at dksX5_init_0 13 rfl rfl)
theorem dX5_init_14 : decode cX5_init 14 = .ok (.iaload, 1) := dk_46 (dk_at dksX5_init_0 14 rfl rfl)
theorem dX5_init_15 : decode cX5_init 15 = .ok (.putfield 15, 3) := dk_181 0 15 (dk_at dksX5_init_0 15 rfl rfl)
theorem dX5_init_18 : decode cX5_init 18 = .ok (.aload_n 0, 1) := dk_42 (dk_at dksX5_init_0 18 rfl rfl)
theorem dX5_init_19 : decode cX5_init 19 = .ok (.aload_n 1, 1) := dk_43 (dk_at dksX5_init_0 19 rfl rfl)
theorem dX5_init_20 : decode cX5_init 20 = .ok (.iconst 2, 1) := dk_5 (dk_at dksX5_init_0 20 rfl rfl)
theorem dX5_init_21 : decode cX5_init 21 = .ok (.iaload, 1) := dk_46 (dk_at dksX5_init_0 21 rfl rfl)
theorem dX5_init_22 : decode cX5_init 22 = .ok (.putfield 18, 3) := dk_181 0 18 (dk_at dksX5_init_1 0 rfl rfl)
theorem dX5_init_25 : decode cX5_init 25 = .ok (.aload_n 0, 1) := dk_42 (dk_at dksX5_init_1 3 rfl rfl)
theorem dX5_init_26 : decode cX5_init 26 = .ok (.aload_n 1, 1) := dk_43 (dk_at dksX5_init_1 4 rfl rfl)
theorem dX5_init_27 : decode cX5_init 27 = .ok (.iconst 3, 1) := dk_6 (dk_at dksX5_init_1 5 rfl rfl)
theorem dX5_init_28 : decode cX5_init 28 = .ok (.iaload, 1) := dk_46 (dk_at dksX5_init_1 6 rfl rfl)
theorem dX5_init_29 : decode cX5_init 29 = .ok (.putfield 21, 3) := dk_181 0 21 (dk_at dksX5_init_1 7 rfl rfl)
theorem dX5_init_32 : decode cX5_init 32 = .ok (.return_, 1) := dk_177 (dk_at dksX5_init_1 10 rfl rfl)
abbrev cX5_what : ByteArray := prog_15_method_9_code
def yX5_what : MethodName := ⟨RX5, "what", "(I)I"⟩
def dkwX5_what_3 : List UInt8 := [180, 0, 18, 167, 0, 12, 42, 180, 0, 21, 167, 0, 5, 16, 251, 172]
abbrev dktX5_what_3 : List UInt8 := dkwX5_what_3 ++ []
def dkwX5_what_2 : List UInt8 := [42, 182, 0, 24, 167, 0, 33, 42, 180, 0, 9, 167, 0, 26, 42, 180, 0, 15, 167, 0, 19, 42]
abbrev dktX5_what_2 : List UInt8 := dkwX5_what_2 ++ dktX5_what_3
def dkwX5_what_1 : List UInt8 := [170, 0, 0, 0, 0, 0, 70, 0, 0, 0, 0, 0, 0, 0, 4, 0, 0, 0, 35, 0, 0, 0, 42, 0, 0, 0, 49, 0, 0, 0, 56, 0, 0, 0, 63]
abbrev dktX5_what_1 : List UInt8 := dkwX5_what_1 ++ dktX5_what_2
def dkwX5_what_0 : List UInt8 := [27]
abbrev dktX5_what_0 : List UInt8 := dkwX5_what_0 ++ dktX5_what_1
theorem dksX5_what_0 : cX5_what.data.toList.drop 0 = dktX5_what_0 := by decide +kernel
theorem dksX5_what_1 : cX5_what.data.toList.drop 1 = dktX5_what_1 := dk_seg dksX5_what_0 1 rfl rfl
theorem dksX5_what_2 : cX5_what.data.toList.drop 36 = dktX5_what_2 := dk_seg dksX5_what_1 35 rfl rfl
theorem dksX5_what_3 : cX5_what.data.toList.drop 58 = dktX5_what_3 := dk_seg dksX5_what_2 22 rfl rfl
theorem dX5_what_0 : decode cX5_what 0 = .ok (.iload_n 1, 1) := dk_27 (dk_at dksX5_what_0 0 rfl rfl)
theorem dX5_what_1 : decode cX5_what 1 = .ok (.tableswitch 70 0 4 #[35, 42, 49, 56, 63], 35) := by decide +kernel
theorem dX5_what_36 : decode cX5_what 36 = .ok (.aload_n 0, 1) := dk_42 (dk_at dksX5_what_2 0 rfl rfl)
theorem dX5_what_37 : decode cX5_what 37 = .ok (.invokevirtual 24, 3) := dk_182 0 24 (dk_at dksX5_what_2 1 rfl rfl)
theorem dX5_what_40 : decode cX5_what 40 = .ok (.goto 33, 3) := dk_167 0 33 (dk_at dksX5_what_2 4 rfl rfl)
theorem dX5_what_43 : decode cX5_what 43 = .ok (.aload_n 0, 1) := dk_42 (dk_at dksX5_what_2 7 rfl rfl)
theorem dX5_what_44 : decode cX5_what 44 = .ok (.getfield 9, 3) := dk_180 0 9 (dk_at dksX5_what_2 8 rfl rfl)
theorem dX5_what_47 : decode cX5_what 47 = .ok (.goto 26, 3) := dk_167 0 26 (dk_at dksX5_what_2 11 rfl rfl)
theorem dX5_what_50 : decode cX5_what 50 = .ok (.aload_n 0, 1) := dk_42 (dk_at dksX5_what_2 14 rfl rfl)
theorem dX5_what_51 : decode cX5_what 51 = .ok (.getfield 15, 3) := dk_180 0 15 (dk_at dksX5_what_2 15 rfl rfl)
theorem dX5_what_54 : decode cX5_what 54 = .ok (.goto 19, 3) := dk_167 0 19 (dk_at dksX5_what_2 18 rfl rfl)
theorem dX5_what_57 : decode cX5_what 57 = .ok (.aload_n 0, 1) := dk_42 (dk_at dksX5_what_2 21 rfl rfl)
theorem dX5_what_58 : decode cX5_what 58 = .ok (.getfield 18, 3) := dk_180 0 18 (dk_at dksX5_what_3 0 rfl rfl)
theorem dX5_what_61 : decode cX5_what 61 = .ok (.goto 12, 3) := dk_167 0 12 (dk_at dksX5_what_3 3 rfl rfl)
theorem dX5_what_64 : decode cX5_what 64 = .ok (.aload_n 0, 1) := dk_42 (dk_at dksX5_what_3 6 rfl rfl)
theorem dX5_what_65 : decode cX5_what 65 = .ok (.getfield 21, 3) := dk_180 0 21 (dk_at dksX5_what_3 7 rfl rfl)
theorem dX5_what_68 : decode cX5_what 68 = .ok (.goto 5, 3) := dk_167 0 5 (dk_at dksX5_what_3 10 rfl rfl)
theorem dX5_what_71 : decode cX5_what 71 = .ok (.bipush (-5), 2) := dk_16 251 (dk_at dksX5_what_3 13 rfl rfl)
theorem dX5_what_73 : decode cX5_what 73 = .ok (.ireturn, 1) := dk_172 (dk_at dksX5_what_3 15 rfl rfl)
abbrev cX5_stateOf : ByteArray := prog_15_method_10_code
def yX5_stateOf : MethodName := ⟨RX5, "stateOf", "(I)I"⟩
theorem dX5_stateOf_0 : decode cX5_stateOf 0 = .ok (.bipush (-5), 2) := by decide +kernel
theorem dX5_stateOf_2 : decode cX5_stateOf 2 = .ok (.ireturn, 1) := by decide +kernel
abbrev cX5_wanted : ByteArray := prog_15_method_13_code
def yX5_wanted : MethodName := ⟨RX5, "wanted", "()I"⟩
theorem dX5_wanted_0 : decode cX5_wanted 0 = .ok (.iconst (-1), 1) := by decide +kernel
theorem dX5_wanted_1 : decode cX5_wanted 1 = .ok (.ireturn, 1) := by decide +kernel
abbrev cX5_reaches : ByteArray := prog_15_method_12_code
def yX5_reaches : MethodName := ⟨RX5, "reaches", "(II)I"⟩
theorem dX5_reaches_0 : decode cX5_reaches 0 = .ok (.iconst (-1), 1) := by decide +kernel
theorem dX5_reaches_1 : decode cX5_reaches 1 = .ok (.ireturn, 1) := by decide +kernel
theorem q110 : (Jvm.Cond.initialized "VersionSolver$Rule") ∈ lw_all := lw_g (lw_at lw_m1 21 rfl) rfl
theorem q628 : (Jvm.Cond.instanceMethod ({ cls := "VersionSolver$Rule", name := "isOf", desc := "(II)Z" } : Jvm.MethodName)) ∈ lw_all := lw_g (lw_at lw_m3 59 rfl) rfl
theorem q629 : (Jvm.Cond.sameMethod "VersionSolver$Rule" "VersionSolver$Rule" "isOf" "(II)Z") ∈ lw_all := lw_g (lw_at lw_m3 60 rfl) rfl
theorem q636 : (Jvm.Cond.code ({ cls := "VersionSolver$Rule", name := "isOf", desc := "(II)Z" } : Jvm.MethodName) prog_15_method_11_code (3 : Nat) (Option.some Jvm.ClassFile.FieldType.boolean)) ∈ lw_all := lw_g (lw_at lw_m3 67 rfl) rfl
theorem q698 : (Jvm.Cond.instanceMethod ({ cls := "VersionSolver$Rule", name := "<init>", desc := "([I)V" } : Jvm.MethodName)) ∈ lw_all := lw_g (lw_at lw_m3 129 rfl) rfl
theorem q699 : (Jvm.Cond.code ({ cls := "VersionSolver$Rule", name := "<init>", desc := "([I)V" } : Jvm.MethodName) prog_15_method_1_code (2 : Nat) (Option.none : Option Jvm.ClassFile.FieldType)) ∈ lw_all := lw_g (lw_at lw_m3 130 rfl) rfl
theorem q700 : (Jvm.Cond.methodLink "VersionSolver$Rule" (3 : Nat) ({ cls := "java/lang/Object", name := "<init>", desc := "()V" } : Jvm.MethodName)) ∈ lw_all := lw_g (lw_at lw_m3 131 rfl) rfl
theorem q701 : (Jvm.Cond.fieldLink "VersionSolver$Rule" (9 : Nat) "VersionSolver$Rule" "pack" "I") ∈ lw_all := lw_g (lw_at lw_m3 132 rfl) rfl
theorem q706 : (Jvm.Cond.fieldLink "VersionSolver$Rule" (15 : Nat) "VersionSolver$Rule" "version" "I") ∈ lw_all := lw_g (lw_at lw_m3 137 rfl) rfl
theorem q709 : (Jvm.Cond.fieldLink "VersionSolver$Rule" (18 : Nat) "VersionSolver$Rule" "other" "I") ∈ lw_all := lw_g (lw_at lw_m3 140 rfl) rfl
theorem q714 : (Jvm.Cond.fieldLink "VersionSolver$Rule" (21 : Nat) "VersionSolver$Rule" "range" "I") ∈ lw_all := lw_g (lw_at lw_m3 145 rfl) rfl
theorem q717 : (Jvm.Cond.soleField "VersionSolver$Rule" "pack") ∈ lw_all := lw_g (lw_at lw_m3 148 rfl) rfl
theorem q719 : (Jvm.Cond.soleField "VersionSolver$Rule" "version") ∈ lw_all := lw_g (lw_at lw_m3 150 rfl) rfl
theorem q721 : (Jvm.Cond.soleField "VersionSolver$Rule" "other") ∈ lw_all := lw_g (lw_at lw_m3 152 rfl) rfl
theorem q723 : (Jvm.Cond.soleField "VersionSolver$Rule" "range") ∈ lw_all := lw_g (lw_at lw_m3 154 rfl) rfl
theorem q796 : (Jvm.Cond.instanceMethod ({ cls := "VersionSolver$Rule", name := "what", desc := "(I)I" } : Jvm.MethodName)) ∈ lw_all := lw_g (lw_at lw_m3 227 rfl) rfl
theorem q797 : (Jvm.Cond.sameMethod "VersionSolver$Rule" "VersionSolver$Rule" "what" "(I)I") ∈ lw_all := lw_g (lw_at lw_m3 228 rfl) rfl
theorem q812 : (Jvm.Cond.code ({ cls := "VersionSolver$Rule", name := "what", desc := "(I)I" } : Jvm.MethodName) prog_15_method_9_code (2 : Nat) (Option.some Jvm.ClassFile.FieldType.int)) ∈ lw_all := lw_g (lw_at lw_m4 3 rfl) rfl
theorem q813 : (Jvm.Cond.methodLink "VersionSolver$Rule" (24 : Nat) ({ cls := "VersionSolver$Rule", name := "kind", desc := "()I" } : Jvm.MethodName)) ∈ lw_all := lw_g (lw_at lw_m4 4 rfl) rfl
theorem q814 : (Jvm.Cond.declares ({ cls := "VersionSolver$Rule", name := "kind", desc := "()I" } : Jvm.MethodName)) ∈ lw_tbl := lw_at lw_m4 5 rfl
theorem q815 : (Jvm.Cond.sameMethod "VersionSolver$Rule" "VersionSolver$Rule" "kind" "()I") ∈ lw_all := lw_g (lw_at lw_m4 6 rfl) rfl
theorem q835 : (Jvm.Cond.instanceMethod ({ cls := "VersionSolver$Rule", name := "stateOf", desc := "(I)I" } : Jvm.MethodName)) ∈ lw_all := lw_g (lw_at lw_m4 26 rfl) rfl
theorem q836 : (Jvm.Cond.sameMethod "VersionSolver$Rule" "VersionSolver$Rule" "stateOf" "(I)I") ∈ lw_all := lw_g (lw_at lw_m4 27 rfl) rfl
theorem q843 : (Jvm.Cond.code ({ cls := "VersionSolver$Rule", name := "stateOf", desc := "(I)I" } : Jvm.MethodName) prog_15_method_10_code (2 : Nat) (Option.some Jvm.ClassFile.FieldType.int)) ∈ lw_all := lw_g (lw_at lw_m4 34 rfl) rfl
theorem q873 : (Jvm.Cond.declares ({ cls := "VersionSolver$Rule", name := "ranged", desc := "()I" } : Jvm.MethodName)) ∈ lw_tbl := lw_at lw_m4 64 rfl
theorem q874 : (Jvm.Cond.sameMethod "VersionSolver$Rule" "VersionSolver$Rule" "ranged" "()I") ∈ lw_all := lw_g (lw_at lw_m4 65 rfl) rfl
theorem q934 : (Jvm.Cond.declares ({ cls := "VersionSolver$Rule", name := "narrows", desc := "(LVersionSolver$Trace;I)V" } : Jvm.MethodName)) ∈ lw_tbl := lw_at lw_m4 125 rfl
theorem q935 : (Jvm.Cond.sameMethod "VersionSolver$Rule" "VersionSolver$Rule" "narrows" "(LVersionSolver$Trace;I)V") ∈ lw_all := lw_g (lw_at lw_m4 126 rfl) rfl
theorem q959 : (Jvm.Cond.declares ({ cls := "VersionSolver$Rule", name := "conditions", desc := "(I)I" } : Jvm.MethodName)) ∈ lw_tbl := lw_at lw_m4 150 rfl
theorem q960 : (Jvm.Cond.sameMethod "VersionSolver$Rule" "VersionSolver$Rule" "conditions" "(I)I") ∈ lw_all := lw_g (lw_at lw_m4 151 rfl) rfl
theorem q1088 : (Jvm.Cond.declares ({ cls := "VersionSolver$Rule", name := "impossible", desc := "(I[II)I" } : Jvm.MethodName)) ∈ lw_tbl := lw_at lw_m5 39 rfl
theorem q1089 : (Jvm.Cond.sameMethod "VersionSolver$Rule" "VersionSolver$Rule" "impossible" "(I[II)I") ∈ lw_all := lw_g (lw_at lw_m5 40 rfl) rfl
theorem q1251 : (Jvm.Cond.instanceMethod ({ cls := "VersionSolver$Rule", name := "wanted", desc := "()I" } : Jvm.MethodName)) ∈ lw_all := lw_g (lw_at lw_m5 202 rfl) rfl
theorem q1252 : (Jvm.Cond.sameMethod "VersionSolver$Rule" "VersionSolver$Rule" "wanted" "()I") ∈ lw_all := lw_g (lw_at lw_m5 203 rfl) rfl
theorem q1259 : (Jvm.Cond.code ({ cls := "VersionSolver$Rule", name := "wanted", desc := "()I" } : Jvm.MethodName) prog_15_method_13_code (1 : Nat) (Option.some Jvm.ClassFile.FieldType.int)) ∈ lw_all := lw_g (lw_at lw_m5 210 rfl) rfl
theorem q1261 : (Jvm.Cond.instanceMethod ({ cls := "VersionSolver$Rule", name := "reaches", desc := "(II)I" } : Jvm.MethodName)) ∈ lw_all := lw_g (lw_at lw_m5 212 rfl) rfl
theorem q1262 : (Jvm.Cond.sameMethod "VersionSolver$Rule" "VersionSolver$Rule" "reaches" "(II)I") ∈ lw_all := lw_g (lw_at lw_m5 213 rfl) rfl
theorem q1274 : (Jvm.Cond.declares ({ cls := "VersionSolver$Rule", name := "reaches", desc := "(II)I" } : Jvm.MethodName)) ∈ lw_tbl := lw_at lw_m5 225 rfl
theorem q1276 : (Jvm.Cond.code ({ cls := "VersionSolver$Rule", name := "reaches", desc := "(II)I" } : Jvm.MethodName) prog_15_method_12_code (3 : Nat) (Option.some Jvm.ClassFile.FieldType.int)) ∈ lw_all := lw_g (lw_at lw_m5 227 rfl) rfl
theorem q1299 : (Jvm.Cond.declares ({ cls := "VersionSolver$Rule", name := "last", desc := "()I" } : Jvm.MethodName)) ∈ lw_tbl := lw_at lw_m6 10 rfl
theorem q1300 : (Jvm.Cond.sameMethod "VersionSolver$Rule" "VersionSolver$Rule" "last" "()I") ∈ lw_all := lw_g (lw_at lw_m6 11 rfl) rfl
theorem q1313 : (Jvm.Cond.declares ({ cls := "VersionSolver$Rule", name := "isKept", desc := "(I[I)Z" } : Jvm.MethodName)) ∈ lw_tbl := lw_at lw_m6 24 rfl
theorem q1314 : (Jvm.Cond.sameMethod "VersionSolver$Rule" "VersionSolver$Rule" "isKept" "(I[I)Z") ∈ lw_all := lw_g (lw_at lw_m6 25 rfl) rfl
/-! VersionSolver$Want -/
set_option maxRecDepth 100000
def RX6 : String := "VersionSolver$Want"
def TX6 : u_T := fun k => match k with
  | 0 => ("VersionSolver$Rule", "pack", "I", true)
  | 1 => ("VersionSolver$Rule", "version", "I", true)
  | 2 => ("VersionSolver$Rule", "other", "I", true)
  | _ => ("VersionSolver$Rule", "range", "I", true)
def tyX6 : Nat → FieldType := fun k => match k with
  | 0 => .int
  | 1 => .int
  | 2 => .int
  | _ => .int
abbrev wsX60 : List Cond := u_ws RX6 TX6 4
theorem nmX6 : ∀ a, a < 4 → ∀ b, b < 4 → a ≠ b → (TX6 a).2.1 ≠ (TX6 b).2.1 := by decide +kernel
theorem tyX6_ok : ∀ k, k < 4 → parseFieldDescriptor (TX6 k).2.2.1 = some (tyX6 k) := by decide +kernel
abbrev cX6_init : ByteArray := prog_21_method_1_code
def yX6_init : MethodName := ⟨RX6, "<init>", "(II)V"⟩
def dkwX6_init_1 : List UInt8 := [183, 0, 3, 177]
abbrev dktX6_init_1 : List UInt8 := dkwX6_init_1 ++ []
def dkwX6_init_0 : List UInt8 := [42, 7, 188, 10, 89, 3, 27, 79, 89, 4, 16, 251, 79, 89, 5, 16, 251, 79, 89, 6, 28, 79]
abbrev dktX6_init_0 : List UInt8 := dkwX6_init_0 ++ dktX6_init_1
theorem dksX6_init_0 : cX6_init.data.toList.drop 0 = dktX6_init_0 := by decide +kernel
theorem dksX6_init_1 : cX6_init.data.toList.drop 22 = dktX6_init_1 := dk_seg dksX6_init_0 22 rfl rfl
theorem dX6_init_0 : decode cX6_init 0 = .ok (.aload_n 0, 1) := dk_42 (dk_at dksX6_init_0 0 rfl rfl)
theorem dX6_init_1 : decode cX6_init 1 = .ok (.iconst 4, 1) := dk_7 (dk_at dksX6_init_0 1 rfl rfl)
theorem dX6_init_2 : decode cX6_init 2 = .ok (.newarray .int, 2) := dk_188_10 (dk_at dksX6_init_0 2 rfl rfl)
theorem dX6_init_4 : decode cX6_init 4 = .ok (.dup, 1) := dk_89 (dk_at dksX6_init_0 4 rfl rfl)
theorem dX6_init_5 : decode cX6_init 5 = .ok (.iconst 0, 1) := dk_3 (dk_at dksX6_init_0 5 rfl rfl)
theorem dX6_init_6 : decode cX6_init 6 = .ok (.iload_n 1, 1) := dk_27 (dk_at dksX6_init_0 6 rfl rfl)
theorem dX6_init_7 : decode cX6_init 7 = .ok (.iastore, 1) := dk_79 (dk_at dksX6_init_0 7 rfl rfl)
theorem dX6_init_8 : decode cX6_init 8 = .ok (.dup, 1) := dk_89 (dk_at dksX6_init_0 8 rfl rfl)
theorem dX6_init_9 : decode cX6_init 9 = .ok (.iconst 1, 1) := dk_4 (dk_at dksX6_init_0 9 rfl rfl)
theorem dX6_init_10 : decode cX6_init 10 = .ok (.bipush (-5), 2) := dk_16 251 (dk_at dksX6_init_0 10 rfl rfl)
theorem dX6_init_12 : decode cX6_init 12 = .ok (.iastore, 1) := dk_79 (dk_at dksX6_init_0 12 rfl rfl)
theorem dX6_init_13 : decode cX6_init 13 = .ok (.dup, 1) := dk_89 (dk_at dksX6_init_0 13 rfl rfl)
theorem dX6_init_14 : decode cX6_init 14 = .ok (.iconst 2, 1) := dk_5 (dk_at dksX6_init_0 14 rfl rfl)
theorem dX6_init_15 : decode cX6_init 15 = .ok (.bipush (-5), 2) := dk_16 251 (dk_at dksX6_init_0 15 rfl rfl)
theorem dX6_init_17 : decode cX6_init 17 = .ok (.iastore, 1) := dk_79 (dk_at dksX6_init_0 17 rfl rfl)
theorem dX6_init_18 : decode cX6_init 18 = .ok (.dup, 1) := dk_89 (dk_at dksX6_init_0 18 rfl rfl)
theorem dX6_init_19 : decode cX6_init 19 = .ok (.iconst 3, 1) := dk_6 (dk_at dksX6_init_0 19 rfl rfl)
theorem dX6_init_20 : decode cX6_init 20 = .ok (.iload_n 2, 1) := dk_28 (dk_at dksX6_init_0 20 rfl rfl)
theorem dX6_init_21 : decode cX6_init 21 = .ok (.iastore, 1) := dk_79 (dk_at dksX6_init_0 21 rfl rfl)
theorem dX6_init_22 : decode cX6_init 22 = .ok (.invokespecial 3, 3) := dk_183 0 3 (dk_at dksX6_init_1 0 rfl rfl)
theorem dX6_init_25 : decode cX6_init 25 = .ok (.return_, 1) := dk_177 (dk_at dksX6_init_1 3 rfl rfl)
abbrev cX6_kind : ByteArray := prog_21_method_2_code
def yX6_kind : MethodName := ⟨RX6, "kind", "()I"⟩
theorem dX6_kind_0 : decode cX6_kind 0 = .ok (.iconst 0, 1) := by decide +kernel
theorem dX6_kind_1 : decode cX6_kind 1 = .ok (.ireturn, 1) := by decide +kernel
abbrev cX6_ranged : ByteArray := prog_21_method_3_code
def yX6_ranged : MethodName := ⟨RX6, "ranged", "()I"⟩
theorem dX6_ranged_0 : decode cX6_ranged 0 = .ok (.aload_n 0, 1) := by decide +kernel
theorem dX6_ranged_1 : decode cX6_ranged 1 = .ok (.getfield 9, 3) := by decide +kernel
theorem dX6_ranged_4 : decode cX6_ranged 4 = .ok (.ireturn, 1) := by decide +kernel
abbrev cX6_conditions : ByteArray := prog_21_method_5_code
def yX6_conditions : MethodName := ⟨RX6, "conditions", "(I)I"⟩
theorem dX6_conditions_0 : decode cX6_conditions 0 = .ok (.iconst 0, 1) := by decide +kernel
theorem dX6_conditions_1 : decode cX6_conditions 1 = .ok (.ireturn, 1) := by decide +kernel
abbrev cX6_narrows : ByteArray := prog_21_method_7_code
def yX6_narrows : MethodName := ⟨RX6, "narrows", "(LVersionSolver$Trace;I)V"⟩
def dkwX6_narrows_0 : List UInt8 := [43, 28, 42, 180, 0, 9, 43, 180, 0, 15, 28, 46, 2, 130, 182, 0, 21, 177]
abbrev dktX6_narrows_0 : List UInt8 := dkwX6_narrows_0 ++ []
theorem dksX6_narrows_0 : cX6_narrows.data.toList.drop 0 = dktX6_narrows_0 := by decide +kernel
theorem dX6_narrows_0 : decode cX6_narrows 0 = .ok (.aload_n 1, 1) := dk_43 (dk_at dksX6_narrows_0 0 rfl rfl)
theorem dX6_narrows_1 : decode cX6_narrows 1 = .ok (.iload_n 2, 1) := dk_28 (dk_at dksX6_narrows_0 1 rfl rfl)
theorem dX6_narrows_2 : decode cX6_narrows 2 = .ok (.aload_n 0, 1) := dk_42 (dk_at dksX6_narrows_0 2 rfl rfl)
theorem dX6_narrows_3 : decode cX6_narrows 3 = .ok (.getfield 9, 3) := dk_180 0 9 (dk_at dksX6_narrows_0 3 rfl rfl)
theorem dX6_narrows_6 : decode cX6_narrows 6 = .ok (.aload_n 1, 1) := dk_43 (dk_at dksX6_narrows_0 6 rfl rfl)
theorem dX6_narrows_7 : decode cX6_narrows 7 = .ok (.getfield 15, 3) := dk_180 0 15 (dk_at dksX6_narrows_0 7 rfl rfl)
theorem dX6_narrows_10 : decode cX6_narrows 10 = .ok (.iload_n 2, 1) := dk_28 (dk_at dksX6_narrows_0 10 rfl rfl)
theorem dX6_narrows_11 : decode cX6_narrows 11 = .ok (.iaload, 1) := dk_46 (dk_at dksX6_narrows_0 11 rfl rfl)
theorem dX6_narrows_12 : decode cX6_narrows 12 = .ok (.iconst (-1), 1) := dk_2 (dk_at dksX6_narrows_0 12 rfl rfl)
theorem dX6_narrows_13 : decode cX6_narrows 13 = .ok (.ixor, 1) := dk_130 (dk_at dksX6_narrows_0 13 rfl rfl)
theorem dX6_narrows_14 : decode cX6_narrows 14 = .ok (.invokevirtual 21, 3) := dk_182 0 21 (dk_at dksX6_narrows_0 14 rfl rfl)
theorem dX6_narrows_17 : decode cX6_narrows 17 = .ok (.return_, 1) := dk_177 (dk_at dksX6_narrows_0 17 rfl rfl)
abbrev cX6_impossible : ByteArray := prog_21_method_6_code
def yX6_impossible : MethodName := ⟨RX6, "impossible", "(I[II)I"⟩
def dkwX6_impossible_0 : List UInt8 := [27, 2, 130, 172]
abbrev dktX6_impossible_0 : List UInt8 := dkwX6_impossible_0 ++ []
theorem dksX6_impossible_0 : cX6_impossible.data.toList.drop 0 = dktX6_impossible_0 := by decide +kernel
theorem dX6_impossible_0 : decode cX6_impossible 0 = .ok (.iload_n 1, 1) := dk_27 (dk_at dksX6_impossible_0 0 rfl rfl)
theorem dX6_impossible_1 : decode cX6_impossible 1 = .ok (.iconst (-1), 1) := dk_2 (dk_at dksX6_impossible_0 1 rfl rfl)
theorem dX6_impossible_2 : decode cX6_impossible 2 = .ok (.ixor, 1) := dk_130 (dk_at dksX6_impossible_0 2 rfl rfl)
theorem dX6_impossible_3 : decode cX6_impossible 3 = .ok (.ireturn, 1) := dk_172 (dk_at dksX6_impossible_0 3 rfl rfl)
abbrev cX6_wanted : ByteArray := prog_21_method_9_code
def yX6_wanted : MethodName := ⟨RX6, "wanted", "()I"⟩
theorem dX6_wanted_0 : decode cX6_wanted 0 = .ok (.aload_n 0, 1) := by decide +kernel
theorem dX6_wanted_1 : decode cX6_wanted 1 = .ok (.getfield 9, 3) := by decide +kernel
theorem dX6_wanted_4 : decode cX6_wanted 4 = .ok (.ireturn, 1) := by decide +kernel
abbrev cX6_last : ByteArray := prog_21_method_4_code
def yX6_last : MethodName := ⟨RX6, "last", "()I"⟩
theorem dX6_last_0 : decode cX6_last 0 = .ok (.aload_n 0, 1) := by decide +kernel
theorem dX6_last_1 : decode cX6_last 1 = .ok (.getfield 9, 3) := by decide +kernel
theorem dX6_last_4 : decode cX6_last 4 = .ok (.ireturn, 1) := by decide +kernel
abbrev cX6_isKept : ByteArray := prog_21_method_8_code
def yX6_isKept : MethodName := ⟨RX6, "isKept", "(I[I)Z"⟩
def dkwX6_isKept_0 : List UInt8 := [27, 44, 42, 180, 0, 9, 46, 184, 0, 25, 172]
abbrev dktX6_isKept_0 : List UInt8 := dkwX6_isKept_0 ++ []
theorem dksX6_isKept_0 : cX6_isKept.data.toList.drop 0 = dktX6_isKept_0 := by decide +kernel
theorem dX6_isKept_0 : decode cX6_isKept 0 = .ok (.iload_n 1, 1) := dk_27 (dk_at dksX6_isKept_0 0 rfl rfl)
theorem dX6_isKept_1 : decode cX6_isKept 1 = .ok (.aload_n 2, 1) := dk_44 (dk_at dksX6_isKept_0 1 rfl rfl)
theorem dX6_isKept_2 : decode cX6_isKept 2 = .ok (.aload_n 0, 1) := dk_42 (dk_at dksX6_isKept_0 2 rfl rfl)
theorem dX6_isKept_3 : decode cX6_isKept 3 = .ok (.getfield 9, 3) := dk_180 0 9 (dk_at dksX6_isKept_0 3 rfl rfl)
theorem dX6_isKept_6 : decode cX6_isKept 6 = .ok (.iaload, 1) := dk_46 (dk_at dksX6_isKept_0 6 rfl rfl)
theorem dX6_isKept_7 : decode cX6_isKept 7 = .ok (.invokestatic 25, 3) := dk_184 0 25 (dk_at dksX6_isKept_0 7 rfl rfl)
theorem dX6_isKept_10 : decode cX6_isKept 10 = .ok (.ireturn, 1) := dk_172 (dk_at dksX6_isKept_0 10 rfl rfl)
theorem q111 : (Jvm.Cond.initialized "VersionSolver$Want") ∈ lw_all := lw_g (lw_at lw_m1 22 rfl) rfl
theorem q422 : (Jvm.Cond.selects "VersionSolver$Want" ({ cls := "java/lang/Object", name := "getClass", desc := "()Ljava/lang/Class;" } : Jvm.MethodName) ({ cls := "java/lang/Object", name := "getClass", desc := "()Ljava/lang/Class;" } : Jvm.MethodName)) ∈ lw_all := lw_g (lw_at lw_m2 93 rfl) rfl
theorem q635 : (Jvm.Cond.selects "VersionSolver$Want" ({ cls := "VersionSolver$Rule", name := "isOf", desc := "(II)Z" } : Jvm.MethodName) ({ cls := "VersionSolver$Rule", name := "isOf", desc := "(II)Z" } : Jvm.MethodName)) ∈ lw_all := lw_g (lw_at lw_m3 66 rfl) rfl
theorem q693 : (Jvm.Cond.instantiable "VersionSolver$Want" (4 : Nat)) ∈ lw_all := lw_g (lw_at lw_m3 124 rfl) rfl
theorem q695 : (Jvm.Cond.instanceMethod ({ cls := "VersionSolver$Want", name := "<init>", desc := "(II)V" } : Jvm.MethodName)) ∈ lw_all := lw_g (lw_at lw_m3 126 rfl) rfl
theorem q696 : (Jvm.Cond.code ({ cls := "VersionSolver$Want", name := "<init>", desc := "(II)V" } : Jvm.MethodName) prog_21_method_1_code (3 : Nat) (Option.none : Option Jvm.ClassFile.FieldType)) ∈ lw_all := lw_g (lw_at lw_m3 127 rfl) rfl
theorem q697 : (Jvm.Cond.methodLink "VersionSolver$Want" (3 : Nat) ({ cls := "VersionSolver$Rule", name := "<init>", desc := "([I)V" } : Jvm.MethodName)) ∈ lw_all := lw_g (lw_at lw_m3 128 rfl) rfl
theorem q702 : (Jvm.Cond.fieldLink "VersionSolver$Want" (9 : Nat) "VersionSolver$Want" "pack" "I") ∈ lw_all := lw_g (lw_at lw_m3 133 rfl) rfl
theorem q703 : (Jvm.Cond.sameField "VersionSolver$Want" "VersionSolver$Rule" "pack" "I") ∈ lw_all := lw_g (lw_at lw_m3 134 rfl) rfl
theorem q716 : (Jvm.Cond.laysFinal "VersionSolver$Want" "VersionSolver$Rule" "pack" "I") ∈ lw_all := lw_g (lw_at lw_m3 147 rfl) rfl
theorem q718 : (Jvm.Cond.laysFinal "VersionSolver$Want" "VersionSolver$Rule" "version" "I") ∈ lw_all := lw_g (lw_at lw_m3 149 rfl) rfl
theorem q720 : (Jvm.Cond.laysFinal "VersionSolver$Want" "VersionSolver$Rule" "other" "I") ∈ lw_all := lw_g (lw_at lw_m3 151 rfl) rfl
theorem q722 : (Jvm.Cond.laysFinal "VersionSolver$Want" "VersionSolver$Rule" "range" "I") ∈ lw_all := lw_g (lw_at lw_m3 153 rfl) rfl
theorem q724 : (Jvm.Cond.superclass "VersionSolver$Want" "VersionSolver$Rule") ∈ lw_all := lw_g (lw_at lw_m3 155 rfl) rfl
theorem q825 : (Jvm.Cond.selects "VersionSolver$Want" ({ cls := "VersionSolver$Rule", name := "kind", desc := "()I" } : Jvm.MethodName) ({ cls := "VersionSolver$Want", name := "kind", desc := "()I" } : Jvm.MethodName)) ∈ lw_all := lw_g (lw_at lw_m4 16 rfl) rfl
theorem q826 : (Jvm.Cond.instanceMethod ({ cls := "VersionSolver$Want", name := "kind", desc := "()I" } : Jvm.MethodName)) ∈ lw_all := lw_g (lw_at lw_m4 17 rfl) rfl
theorem q827 : (Jvm.Cond.code ({ cls := "VersionSolver$Want", name := "kind", desc := "()I" } : Jvm.MethodName) prog_21_method_2_code (1 : Nat) (Option.some Jvm.ClassFile.FieldType.int)) ∈ lw_all := lw_g (lw_at lw_m4 18 rfl) rfl
theorem q829 : (Jvm.Cond.selects "VersionSolver$Want" ({ cls := "VersionSolver$Rule", name := "what", desc := "(I)I" } : Jvm.MethodName) ({ cls := "VersionSolver$Rule", name := "what", desc := "(I)I" } : Jvm.MethodName)) ∈ lw_all := lw_g (lw_at lw_m4 20 rfl) rfl
theorem q842 : (Jvm.Cond.selects "VersionSolver$Want" ({ cls := "VersionSolver$Rule", name := "stateOf", desc := "(I)I" } : Jvm.MethodName) ({ cls := "VersionSolver$Rule", name := "stateOf", desc := "(I)I" } : Jvm.MethodName)) ∈ lw_all := lw_g (lw_at lw_m4 33 rfl) rfl
theorem q882 : (Jvm.Cond.selects "VersionSolver$Want" ({ cls := "VersionSolver$Rule", name := "ranged", desc := "()I" } : Jvm.MethodName) ({ cls := "VersionSolver$Want", name := "ranged", desc := "()I" } : Jvm.MethodName)) ∈ lw_all := lw_g (lw_at lw_m4 73 rfl) rfl
theorem q883 : (Jvm.Cond.instanceMethod ({ cls := "VersionSolver$Want", name := "ranged", desc := "()I" } : Jvm.MethodName)) ∈ lw_all := lw_g (lw_at lw_m4 74 rfl) rfl
theorem q884 : (Jvm.Cond.code ({ cls := "VersionSolver$Want", name := "ranged", desc := "()I" } : Jvm.MethodName) prog_21_method_3_code (1 : Nat) (Option.some Jvm.ClassFile.FieldType.int)) ∈ lw_all := lw_g (lw_at lw_m4 75 rfl) rfl
theorem q895 : (Jvm.Cond.fieldLinkNest "VersionSolver$Want" (15 : Nat) "VersionSolver$Trace" "masks" "[I" "VersionSolver") ∈ lw_tbl := lw_at lw_m4 86 rfl
theorem q968 : (Jvm.Cond.selects "VersionSolver$Want" ({ cls := "VersionSolver$Rule", name := "conditions", desc := "(I)I" } : Jvm.MethodName) ({ cls := "VersionSolver$Want", name := "conditions", desc := "(I)I" } : Jvm.MethodName)) ∈ lw_all := lw_g (lw_at lw_m4 159 rfl) rfl
theorem q969 : (Jvm.Cond.instanceMethod ({ cls := "VersionSolver$Want", name := "conditions", desc := "(I)I" } : Jvm.MethodName)) ∈ lw_all := lw_g (lw_at lw_m4 160 rfl) rfl
theorem q970 : (Jvm.Cond.code ({ cls := "VersionSolver$Want", name := "conditions", desc := "(I)I" } : Jvm.MethodName) prog_21_method_5_code (2 : Nat) (Option.some Jvm.ClassFile.FieldType.int)) ∈ lw_all := lw_g (lw_at lw_m4 161 rfl) rfl
theorem q1013 : (Jvm.Cond.selects "VersionSolver$Want" ({ cls := "VersionSolver$Rule", name := "narrows", desc := "(LVersionSolver$Trace;I)V" } : Jvm.MethodName) ({ cls := "VersionSolver$Want", name := "narrows", desc := "(LVersionSolver$Trace;I)V" } : Jvm.MethodName)) ∈ lw_all := lw_g (lw_at lw_m4 204 rfl) rfl
theorem q1014 : (Jvm.Cond.instanceMethod ({ cls := "VersionSolver$Want", name := "narrows", desc := "(LVersionSolver$Trace;I)V" } : Jvm.MethodName)) ∈ lw_all := lw_g (lw_at lw_m4 205 rfl) rfl
theorem q1015 : (Jvm.Cond.code ({ cls := "VersionSolver$Want", name := "narrows", desc := "(LVersionSolver$Trace;I)V" } : Jvm.MethodName) prog_21_method_7_code (3 : Nat) (Option.none : Option Jvm.ClassFile.FieldType)) ∈ lw_all := lw_g (lw_at lw_m4 206 rfl) rfl
theorem q1016 : (Jvm.Cond.methodLink "VersionSolver$Want" (21 : Nat) ({ cls := "VersionSolver$Trace", name := "leavesOut", desc := "(III)V" } : Jvm.MethodName)) ∈ lw_all := lw_g (lw_at lw_m4 207 rfl) rfl
theorem q1093 : (Jvm.Cond.selects "VersionSolver$Want" ({ cls := "VersionSolver$Rule", name := "impossible", desc := "(I[II)I" } : Jvm.MethodName) ({ cls := "VersionSolver$Want", name := "impossible", desc := "(I[II)I" } : Jvm.MethodName)) ∈ lw_all := lw_g (lw_at lw_m5 44 rfl) rfl
theorem q1094 : (Jvm.Cond.instanceMethod ({ cls := "VersionSolver$Want", name := "impossible", desc := "(I[II)I" } : Jvm.MethodName)) ∈ lw_all := lw_g (lw_at lw_m5 45 rfl) rfl
theorem q1095 : (Jvm.Cond.code ({ cls := "VersionSolver$Want", name := "impossible", desc := "(I[II)I" } : Jvm.MethodName) prog_21_method_6_code (4 : Nat) (Option.some Jvm.ClassFile.FieldType.int)) ∈ lw_all := lw_g (lw_at lw_m5 46 rfl) rfl
theorem q1256 : (Jvm.Cond.selects "VersionSolver$Want" ({ cls := "VersionSolver$Rule", name := "wanted", desc := "()I" } : Jvm.MethodName) ({ cls := "VersionSolver$Want", name := "wanted", desc := "()I" } : Jvm.MethodName)) ∈ lw_all := lw_g (lw_at lw_m5 207 rfl) rfl
theorem q1257 : (Jvm.Cond.instanceMethod ({ cls := "VersionSolver$Want", name := "wanted", desc := "()I" } : Jvm.MethodName)) ∈ lw_all := lw_g (lw_at lw_m5 208 rfl) rfl
theorem q1258 : (Jvm.Cond.code ({ cls := "VersionSolver$Want", name := "wanted", desc := "()I" } : Jvm.MethodName) prog_21_method_9_code (1 : Nat) (Option.some Jvm.ClassFile.FieldType.int)) ∈ lw_all := lw_g (lw_at lw_m5 209 rfl) rfl
theorem q1277 : (Jvm.Cond.selects "VersionSolver$Want" ({ cls := "VersionSolver$Rule", name := "reaches", desc := "(II)I" } : Jvm.MethodName) ({ cls := "VersionSolver$Rule", name := "reaches", desc := "(II)I" } : Jvm.MethodName)) ∈ lw_all := lw_g (lw_at lw_m5 228 rfl) rfl
theorem q1309 : (Jvm.Cond.selects "VersionSolver$Want" ({ cls := "VersionSolver$Rule", name := "last", desc := "()I" } : Jvm.MethodName) ({ cls := "VersionSolver$Want", name := "last", desc := "()I" } : Jvm.MethodName)) ∈ lw_all := lw_g (lw_at lw_m6 20 rfl) rfl
theorem q1310 : (Jvm.Cond.instanceMethod ({ cls := "VersionSolver$Want", name := "last", desc := "()I" } : Jvm.MethodName)) ∈ lw_all := lw_g (lw_at lw_m6 21 rfl) rfl
theorem q1311 : (Jvm.Cond.code ({ cls := "VersionSolver$Want", name := "last", desc := "()I" } : Jvm.MethodName) prog_21_method_4_code (1 : Nat) (Option.some Jvm.ClassFile.FieldType.int)) ∈ lw_all := lw_g (lw_at lw_m6 22 rfl) rfl
theorem q1323 : (Jvm.Cond.selects "VersionSolver$Want" ({ cls := "VersionSolver$Rule", name := "isKept", desc := "(I[I)Z" } : Jvm.MethodName) ({ cls := "VersionSolver$Want", name := "isKept", desc := "(I[I)Z" } : Jvm.MethodName)) ∈ lw_all := lw_g (lw_at lw_m6 34 rfl) rfl
theorem q1324 : (Jvm.Cond.instanceMethod ({ cls := "VersionSolver$Want", name := "isKept", desc := "(I[I)Z" } : Jvm.MethodName)) ∈ lw_all := lw_g (lw_at lw_m6 35 rfl) rfl
theorem q1325 : (Jvm.Cond.code ({ cls := "VersionSolver$Want", name := "isKept", desc := "(I[I)Z" } : Jvm.MethodName) prog_21_method_8_code (3 : Nat) (Option.some Jvm.ClassFile.FieldType.boolean)) ∈ lw_all := lw_g (lw_at lw_m6 36 rfl) rfl
theorem q1326 : (Jvm.Cond.methodLinkNest "VersionSolver$Want" (25 : Nat) ({ cls := "VersionSolver", name := "has", desc := "(II)Z" } : Jvm.MethodName) "VersionSolver") ∈ lw_tbl := lw_at lw_m6 37 rfl
theorem q2501 : (Jvm.Cond.castable "VersionSolver$Want" "VersionSolver$Rule") ∈ lw_tbl := lw_at lw_m11 12 rfl
theorem q2511 : (Jvm.Cond.castable "VersionSolver$Want" "java/lang/Object") ∈ lw_tbl := lw_at lw_m11 22 rfl
theorem in_X6 : ∀ w ∈ wsX60, w ∈ lw_all := lw_in wsX60 [716, 718, 720, 722] (by decide +kernel) (by decide +kernel)
/-! VersionSolver$Tie -/
set_option maxRecDepth 100000
def RX7 : String := "VersionSolver$Tie"
abbrev cX7_isOf : ByteArray := prog_18_method_9_code
def yX7_isOf : MethodName := ⟨RX7, "isOf", "(II)Z"⟩
def dkwX7_isOf_0 : List UInt8 := [42, 180, 0, 13, 27, 160, 0, 15, 42, 180, 0, 22, 28, 160, 0, 7, 4, 167, 0, 4, 3, 172]
abbrev dktX7_isOf_0 : List UInt8 := dkwX7_isOf_0 ++ []
theorem dksX7_isOf_0 : cX7_isOf.data.toList.drop 0 = dktX7_isOf_0 := by decide +kernel
theorem dX7_isOf_0 : decode cX7_isOf 0 = .ok (.aload_n 0, 1) := dk_42 (dk_at dksX7_isOf_0 0 rfl rfl)
theorem dX7_isOf_1 : decode cX7_isOf 1 = .ok (.getfield 13, 3) := dk_180 0 13 (dk_at dksX7_isOf_0 1 rfl rfl)
theorem dX7_isOf_4 : decode cX7_isOf 4 = .ok (.iload_n 1, 1) := dk_27 (dk_at dksX7_isOf_0 4 rfl rfl)
theorem dX7_isOf_5 : decode cX7_isOf 5 = .ok (.if_icmp .ne 15, 3) := dk_160 0 15 (dk_at dksX7_isOf_0 5 rfl rfl)
theorem dX7_isOf_8 : decode cX7_isOf 8 = .ok (.aload_n 0, 1) := dk_42 (dk_at dksX7_isOf_0 8 rfl rfl)
theorem dX7_isOf_9 : decode cX7_isOf 9 = .ok (.getfield 22, 3) := dk_180 0 22 (dk_at dksX7_isOf_0 9 rfl rfl)
theorem dX7_isOf_12 : decode cX7_isOf 12 = .ok (.iload_n 2, 1) := dk_28 (dk_at dksX7_isOf_0 12 rfl rfl)
theorem dX7_isOf_13 : decode cX7_isOf 13 = .ok (.if_icmp .ne 7, 3) := dk_160 0 7 (dk_at dksX7_isOf_0 13 rfl rfl)
theorem dX7_isOf_16 : decode cX7_isOf 16 = .ok (.iconst 1, 1) := dk_4 (dk_at dksX7_isOf_0 16 rfl rfl)
theorem dX7_isOf_17 : decode cX7_isOf 17 = .ok (.goto 4, 3) := dk_167 0 4 (dk_at dksX7_isOf_0 17 rfl rfl)
theorem dX7_isOf_20 : decode cX7_isOf 20 = .ok (.iconst 0, 1) := dk_3 (dk_at dksX7_isOf_0 20 rfl rfl)
theorem dX7_isOf_21 : decode cX7_isOf 21 = .ok (.ireturn, 1) := dk_172 (dk_at dksX7_isOf_0 21 rfl rfl)
abbrev cX7_init : ByteArray := prog_18_method_1_code
def yX7_init : MethodName := ⟨RX7, "<init>", "(IIII)V"⟩
def dkwX7_init_1 : List UInt8 := [177]
abbrev dktX7_init_1 : List UInt8 := dkwX7_init_1 ++ []
def dkwX7_init_0 : List UInt8 := [42, 7, 188, 10, 89, 3, 27, 79, 89, 4, 28, 79, 89, 5, 29, 79, 89, 6, 21, 4, 79, 183, 0, 1]
abbrev dktX7_init_0 : List UInt8 := dkwX7_init_0 ++ dktX7_init_1
theorem dksX7_init_0 : cX7_init.data.toList.drop 0 = dktX7_init_0 := by decide +kernel
theorem dksX7_init_1 : cX7_init.data.toList.drop 24 = dktX7_init_1 := dk_seg dksX7_init_0 24 rfl rfl
theorem dX7_init_0 : decode cX7_init 0 = .ok (.aload_n 0, 1) := dk_42 (dk_at dksX7_init_0 0 rfl rfl)
theorem dX7_init_1 : decode cX7_init 1 = .ok (.iconst 4, 1) := dk_7 (dk_at dksX7_init_0 1 rfl rfl)
theorem dX7_init_2 : decode cX7_init 2 = .ok (.newarray .int, 2) := dk_188_10 (dk_at dksX7_init_0 2 rfl rfl)
theorem dX7_init_4 : decode cX7_init 4 = .ok (.dup, 1) := dk_89 (dk_at dksX7_init_0 4 rfl rfl)
theorem dX7_init_5 : decode cX7_init 5 = .ok (.iconst 0, 1) := dk_3 (dk_at dksX7_init_0 5 rfl rfl)
theorem dX7_init_6 : decode cX7_init 6 = .ok (.iload_n 1, 1) := dk_27 (dk_at dksX7_init_0 6 rfl rfl)
theorem dX7_init_7 : decode cX7_init 7 = .ok (.iastore, 1) := dk_79 (dk_at dksX7_init_0 7 rfl rfl)
theorem dX7_init_8 : decode cX7_init 8 = .ok (.dup, 1) := dk_89 (dk_at dksX7_init_0 8 rfl rfl)
theorem dX7_init_9 : decode cX7_init 9 = .ok (.iconst 1, 1) := dk_4 (dk_at dksX7_init_0 9 rfl rfl)
theorem dX7_init_10 : decode cX7_init 10 = .ok (.iload_n 2, 1) := dk_28 (dk_at dksX7_init_0 10 rfl rfl)
theorem dX7_init_11 : decode cX7_init 11 = .ok (.iastore, 1) := dk_79 (dk_at dksX7_init_0 11 rfl rfl)
theorem dX7_init_12 : decode cX7_init 12 = .ok (.dup, 1) := dk_89 (dk_at dksX7_init_0 12 rfl rfl)
theorem dX7_init_13 : decode cX7_init 13 = .ok (.iconst 2, 1) := dk_5 (dk_at dksX7_init_0 13 rfl rfl)
theorem dX7_init_14 : decode cX7_init 14 = .ok (.iload_n 3, 1) := dk_29 (dk_at dksX7_init_0 14 rfl rfl)
theorem dX7_init_15 : decode cX7_init 15 = .ok (.iastore, 1) := dk_79 (dk_at dksX7_init_0 15 rfl rfl)
theorem dX7_init_16 : decode cX7_init 16 = .ok (.dup, 1) := dk_89 (dk_at dksX7_init_0 16 rfl rfl)
theorem dX7_init_17 : decode cX7_init 17 = .ok (.iconst 3, 1) := dk_6 (dk_at dksX7_init_0 17 rfl rfl)
theorem dX7_init_18 : decode cX7_init 18 = .ok (.iload 4, 2) := dk_21 4 (dk_at dksX7_init_0 18 rfl rfl)
theorem dX7_init_20 : decode cX7_init 20 = .ok (.iastore, 1) := dk_79 (dk_at dksX7_init_0 20 rfl rfl)
theorem dX7_init_21 : decode cX7_init 21 = .ok (.invokespecial 1, 3) := dk_183 0 1 (dk_at dksX7_init_0 21 rfl rfl)
theorem dX7_init_24 : decode cX7_init 24 = .ok (.return_, 1) := dk_177 (dk_at dksX7_init_1 0 rfl rfl)
abbrev cX7_ranged : ByteArray := prog_18_method_3_code
def yX7_ranged : MethodName := ⟨RX7, "ranged", "()I"⟩
theorem dX7_ranged_0 : decode cX7_ranged 0 = .ok (.aload_n 0, 1) := by decide +kernel
theorem dX7_ranged_1 : decode cX7_ranged 1 = .ok (.getfield 7, 3) := by decide +kernel
theorem dX7_ranged_4 : decode cX7_ranged 4 = .ok (.ireturn, 1) := by decide +kernel
abbrev cX7_narrows : ByteArray := prog_18_method_7_code
def yX7_narrows : MethodName := ⟨RX7, "narrows", "(LVersionSolver$Trace;I)V"⟩
def dkwX7_narrows_2 : List UInt8 := [182, 0, 38, 182, 0, 42, 177]
abbrev dktX7_narrows_2 : List UInt8 := dkwX7_narrows_2 ++ []
def dkwX7_narrows_1 : List UInt8 := [182, 0, 42, 43, 28, 42, 180, 0, 13, 42, 43, 180, 0, 29, 28, 46, 43, 180, 0, 35, 42, 180, 0, 13]
abbrev dktX7_narrows_1 : List UInt8 := dkwX7_narrows_1 ++ dktX7_narrows_2
def dkwX7_narrows_0 : List UInt8 := [43, 28, 42, 180, 0, 7, 42, 43, 180, 0, 29, 28, 46, 43, 180, 0, 35, 42, 180, 0, 7, 182, 0, 38]
abbrev dktX7_narrows_0 : List UInt8 := dkwX7_narrows_0 ++ dktX7_narrows_1
theorem dksX7_narrows_0 : cX7_narrows.data.toList.drop 0 = dktX7_narrows_0 := by decide +kernel
theorem dksX7_narrows_1 : cX7_narrows.data.toList.drop 24 = dktX7_narrows_1 := dk_seg dksX7_narrows_0 24 rfl rfl
theorem dksX7_narrows_2 : cX7_narrows.data.toList.drop 48 = dktX7_narrows_2 := dk_seg dksX7_narrows_1 24 rfl rfl
theorem dX7_narrows_0 : decode cX7_narrows 0 = .ok (.aload_n 1, 1) := dk_43 (dk_at dksX7_narrows_0 0 rfl rfl)
theorem dX7_narrows_1 : decode cX7_narrows 1 = .ok (.iload_n 2, 1) := dk_28 (dk_at dksX7_narrows_0 1 rfl rfl)
theorem dX7_narrows_2 : decode cX7_narrows 2 = .ok (.aload_n 0, 1) := dk_42 (dk_at dksX7_narrows_0 2 rfl rfl)
theorem dX7_narrows_3 : decode cX7_narrows 3 = .ok (.getfield 7, 3) := dk_180 0 7 (dk_at dksX7_narrows_0 3 rfl rfl)
theorem dX7_narrows_6 : decode cX7_narrows 6 = .ok (.aload_n 0, 1) := dk_42 (dk_at dksX7_narrows_0 6 rfl rfl)
theorem dX7_narrows_7 : decode cX7_narrows 7 = .ok (.aload_n 1, 1) := dk_43 (dk_at dksX7_narrows_0 7 rfl rfl)
theorem dX7_narrows_8 : decode cX7_narrows 8 = .ok (.getfield 29, 3) := dk_180 0 29 (dk_at dksX7_narrows_0 8 rfl rfl)
theorem dX7_narrows_11 : decode cX7_narrows 11 = .ok (.iload_n 2, 1) := dk_28 (dk_at dksX7_narrows_0 11 rfl rfl)
theorem dX7_narrows_12 : decode cX7_narrows 12 = .ok (.iaload, 1) := dk_46 (dk_at dksX7_narrows_0 12 rfl rfl)
theorem dX7_narrows_13 : decode cX7_narrows 13 = .ok (.aload_n 1, 1) := dk_43 (dk_at dksX7_narrows_0 13 rfl rfl)
theorem dX7_narrows_14 : decode cX7_narrows 14 = .ok (.getfield 35, 3) := dk_180 0 35 (dk_at dksX7_narrows_0 14 rfl rfl)
theorem dX7_narrows_17 : decode cX7_narrows 17 = .ok (.aload_n 0, 1) := dk_42 (dk_at dksX7_narrows_0 17 rfl rfl)
theorem dX7_narrows_18 : decode cX7_narrows 18 = .ok (.getfield 7, 3) := dk_180 0 7 (dk_at dksX7_narrows_0 18 rfl rfl)
theorem dX7_narrows_21 : decode cX7_narrows 21 = .ok (.invokevirtual 38, 3) := dk_182 0 38 (dk_at dksX7_narrows_0 21 rfl rfl)
theorem dX7_narrows_24 : decode cX7_narrows 24 = .ok (.invokevirtual 42, 3) := dk_182 0 42 (dk_at dksX7_narrows_1 0 rfl rfl)
theorem dX7_narrows_27 : decode cX7_narrows 27 = .ok (.aload_n 1, 1) := dk_43 (dk_at dksX7_narrows_1 3 rfl rfl)
theorem dX7_narrows_28 : decode cX7_narrows 28 = .ok (.iload_n 2, 1) := dk_28 (dk_at dksX7_narrows_1 4 rfl rfl)
theorem dX7_narrows_29 : decode cX7_narrows 29 = .ok (.aload_n 0, 1) := dk_42 (dk_at dksX7_narrows_1 5 rfl rfl)
theorem dX7_narrows_30 : decode cX7_narrows 30 = .ok (.getfield 13, 3) := dk_180 0 13 (dk_at dksX7_narrows_1 6 rfl rfl)
theorem dX7_narrows_33 : decode cX7_narrows 33 = .ok (.aload_n 0, 1) := dk_42 (dk_at dksX7_narrows_1 9 rfl rfl)
theorem dX7_narrows_34 : decode cX7_narrows 34 = .ok (.aload_n 1, 1) := dk_43 (dk_at dksX7_narrows_1 10 rfl rfl)
theorem dX7_narrows_35 : decode cX7_narrows 35 = .ok (.getfield 29, 3) := dk_180 0 29 (dk_at dksX7_narrows_1 11 rfl rfl)
theorem dX7_narrows_38 : decode cX7_narrows 38 = .ok (.iload_n 2, 1) := dk_28 (dk_at dksX7_narrows_1 14 rfl rfl)
theorem dX7_narrows_39 : decode cX7_narrows 39 = .ok (.iaload, 1) := dk_46 (dk_at dksX7_narrows_1 15 rfl rfl)
theorem dX7_narrows_40 : decode cX7_narrows 40 = .ok (.aload_n 1, 1) := dk_43 (dk_at dksX7_narrows_1 16 rfl rfl)
theorem dX7_narrows_41 : decode cX7_narrows 41 = .ok (.getfield 35, 3) := dk_180 0 35 (dk_at dksX7_narrows_1 17 rfl rfl)
theorem dX7_narrows_44 : decode cX7_narrows 44 = .ok (.aload_n 0, 1) := dk_42 (dk_at dksX7_narrows_1 20 rfl rfl)
theorem dX7_narrows_45 : decode cX7_narrows 45 = .ok (.getfield 13, 3) := dk_180 0 13 (dk_at dksX7_narrows_1 21 rfl rfl)
theorem dX7_narrows_48 : decode cX7_narrows 48 = .ok (.invokevirtual 38, 3) := dk_182 0 38 (dk_at dksX7_narrows_2 0 rfl rfl)
theorem dX7_narrows_51 : decode cX7_narrows 51 = .ok (.invokevirtual 42, 3) := dk_182 0 42 (dk_at dksX7_narrows_2 3 rfl rfl)
theorem dX7_narrows_54 : decode cX7_narrows 54 = .ok (.return_, 1) := dk_177 (dk_at dksX7_narrows_2 6 rfl rfl)
abbrev cX7_impossible : ByteArray := prog_18_method_6_code
def yX7_impossible : MethodName := ⟨RX7, "impossible", "(I[II)I"⟩
def dkwX7_impossible_2 : List UInt8 := [154, 0, 12, 4, 42, 180, 0, 22, 120, 167, 0, 4, 3, 172]
abbrev dktX7_impossible_2 : List UInt8 := dkwX7_impossible_2 ++ []
def dkwX7_impossible_1 : List UInt8 := [27, 182, 0, 25, 2, 130, 167, 0, 4, 3, 172, 44, 42, 180, 0, 7, 46, 42, 27, 182, 0, 25, 126]
abbrev dktX7_impossible_1 : List UInt8 := dkwX7_impossible_1 ++ dktX7_impossible_2
def dkwX7_impossible_0 : List UInt8 := [29, 42, 180, 0, 7, 160, 0, 30, 44, 42, 180, 0, 13, 46, 4, 42, 180, 0, 22, 120, 160, 0, 13, 42]
abbrev dktX7_impossible_0 : List UInt8 := dkwX7_impossible_0 ++ dktX7_impossible_1
theorem dksX7_impossible_0 : cX7_impossible.data.toList.drop 0 = dktX7_impossible_0 := by decide +kernel
theorem dksX7_impossible_1 : cX7_impossible.data.toList.drop 24 = dktX7_impossible_1 := dk_seg dksX7_impossible_0 24 rfl rfl
theorem dksX7_impossible_2 : cX7_impossible.data.toList.drop 47 = dktX7_impossible_2 := dk_seg dksX7_impossible_1 23 rfl rfl
theorem dX7_impossible_0 : decode cX7_impossible 0 = .ok (.iload_n 3, 1) := dk_29 (dk_at dksX7_impossible_0 0 rfl rfl)
theorem dX7_impossible_1 : decode cX7_impossible 1 = .ok (.aload_n 0, 1) := dk_42 (dk_at dksX7_impossible_0 1 rfl rfl)
theorem dX7_impossible_2 : decode cX7_impossible 2 = .ok (.getfield 7, 3) := dk_180 0 7 (dk_at dksX7_impossible_0 2 rfl rfl)
theorem dX7_impossible_5 : decode cX7_impossible 5 = .ok (.if_icmp .ne 30, 3) := dk_160 0 30 (dk_at dksX7_impossible_0 5 rfl rfl)
theorem dX7_impossible_8 : decode cX7_impossible 8 = .ok (.aload_n 2, 1) := dk_44 (dk_at dksX7_impossible_0 8 rfl rfl)
theorem dX7_impossible_9 : decode cX7_impossible 9 = .ok (.aload_n 0, 1) := dk_42 (dk_at dksX7_impossible_0 9 rfl rfl)
theorem dX7_impossible_10 : decode cX7_impossible 10 = .ok (.getfield 13, 3) := dk_180 0 13 (dk_at dksX7_impossible_0 10 rfl rfl)
theorem dX7_impossible_13 : decode cX7_impossible 13 = .ok (.iaload, 1) := dk_46 (dk_at dksX7_impossible_0 13 rfl rfl)
theorem dX7_impossible_14 : decode cX7_impossible 14 = .ok (.iconst 1, 1) := dk_4 (dk_at dksX7_impossible_0 14 rfl rfl)
theorem dX7_impossible_15 : decode cX7_impossible 15 = .ok (.aload_n 0, 1) := dk_42 (dk_at dksX7_impossible_0 15 rfl rfl)
theorem dX7_impossible_16 : decode cX7_impossible 16 = .ok (.getfield 22, 3) := dk_180 0 22 (dk_at dksX7_impossible_0 16 rfl rfl)
theorem dX7_impossible_19 : decode cX7_impossible 19 = .ok (.ishl, 1) := dk_120 (dk_at dksX7_impossible_0 19 rfl rfl)
theorem dX7_impossible_20 : decode cX7_impossible 20 = .ok (.if_icmp .ne 13, 3) := dk_160 0 13 (dk_at dksX7_impossible_0 20 rfl rfl)
theorem dX7_impossible_23 : decode cX7_impossible 23 = .ok (.aload_n 0, 1) := dk_42 (dk_at dksX7_impossible_0 23 rfl rfl)
theorem dX7_impossible_24 : decode cX7_impossible 24 = .ok (.iload_n 1, 1) := dk_27 (dk_at dksX7_impossible_1 0 rfl rfl)
theorem dX7_impossible_25 : decode cX7_impossible 25 = .ok (.invokevirtual 25, 3) := dk_182 0 25 (dk_at dksX7_impossible_1 1 rfl rfl)
theorem dX7_impossible_28 : decode cX7_impossible 28 = .ok (.iconst (-1), 1) := dk_2 (dk_at dksX7_impossible_1 4 rfl rfl)
theorem dX7_impossible_29 : decode cX7_impossible 29 = .ok (.ixor, 1) := dk_130 (dk_at dksX7_impossible_1 5 rfl rfl)
theorem dX7_impossible_30 : decode cX7_impossible 30 = .ok (.goto 4, 3) := dk_167 0 4 (dk_at dksX7_impossible_1 6 rfl rfl)
theorem dX7_impossible_33 : decode cX7_impossible 33 = .ok (.iconst 0, 1) := dk_3 (dk_at dksX7_impossible_1 9 rfl rfl)
theorem dX7_impossible_34 : decode cX7_impossible 34 = .ok (.ireturn, 1) := dk_172 (dk_at dksX7_impossible_1 10 rfl rfl)
theorem dX7_impossible_35 : decode cX7_impossible 35 = .ok (.aload_n 2, 1) := dk_44 (dk_at dksX7_impossible_1 11 rfl rfl)
theorem dX7_impossible_36 : decode cX7_impossible 36 = .ok (.aload_n 0, 1) := dk_42 (dk_at dksX7_impossible_1 12 rfl rfl)
theorem dX7_impossible_37 : decode cX7_impossible 37 = .ok (.getfield 7, 3) := dk_180 0 7 (dk_at dksX7_impossible_1 13 rfl rfl)
theorem dX7_impossible_40 : decode cX7_impossible 40 = .ok (.iaload, 1) := dk_46 (dk_at dksX7_impossible_1 16 rfl rfl)
theorem dX7_impossible_41 : decode cX7_impossible 41 = .ok (.aload_n 0, 1) := dk_42 (dk_at dksX7_impossible_1 17 rfl rfl)
theorem dX7_impossible_42 : decode cX7_impossible 42 = .ok (.iload_n 1, 1) := dk_27 (dk_at dksX7_impossible_1 18 rfl rfl)
theorem dX7_impossible_43 : decode cX7_impossible 43 = .ok (.invokevirtual 25, 3) := dk_182 0 25 (dk_at dksX7_impossible_1 19 rfl rfl)
theorem dX7_impossible_46 : decode cX7_impossible 46 = .ok (.iand, 1) := dk_126 (dk_at dksX7_impossible_1 22 rfl rfl)
theorem dX7_impossible_47 : decode cX7_impossible 47 = .ok (.ifCond .ne 12, 3) := dk_154 0 12 (dk_at dksX7_impossible_2 0 rfl rfl)
theorem dX7_impossible_50 : decode cX7_impossible 50 = .ok (.iconst 1, 1) := dk_4 (dk_at dksX7_impossible_2 3 rfl rfl)
theorem dX7_impossible_51 : decode cX7_impossible 51 = .ok (.aload_n 0, 1) := dk_42 (dk_at dksX7_impossible_2 4 rfl rfl)
theorem dX7_impossible_52 : decode cX7_impossible 52 = .ok (.getfield 22, 3) := dk_180 0 22 (dk_at dksX7_impossible_2 5 rfl rfl)
theorem dX7_impossible_55 : decode cX7_impossible 55 = .ok (.ishl, 1) := dk_120 (dk_at dksX7_impossible_2 8 rfl rfl)
theorem dX7_impossible_56 : decode cX7_impossible 56 = .ok (.goto 4, 3) := dk_167 0 4 (dk_at dksX7_impossible_2 9 rfl rfl)
theorem dX7_impossible_59 : decode cX7_impossible 59 = .ok (.iconst 0, 1) := dk_3 (dk_at dksX7_impossible_2 12 rfl rfl)
theorem dX7_impossible_60 : decode cX7_impossible 60 = .ok (.ireturn, 1) := dk_172 (dk_at dksX7_impossible_2 13 rfl rfl)
abbrev cX7_conditions : ByteArray := prog_18_method_5_code
def yX7_conditions : MethodName := ⟨RX7, "conditions", "(I)I"⟩
def dkwX7_conditions_0 : List UInt8 := [27, 42, 180, 0, 13, 160, 0, 12, 4, 42, 180, 0, 7, 120, 167, 0, 9, 4, 42, 180, 0, 13, 120, 172]
abbrev dktX7_conditions_0 : List UInt8 := dkwX7_conditions_0 ++ []
theorem dksX7_conditions_0 : cX7_conditions.data.toList.drop 0 = dktX7_conditions_0 := by decide +kernel
theorem dX7_conditions_0 : decode cX7_conditions 0 = .ok (.iload_n 1, 1) := dk_27 (dk_at dksX7_conditions_0 0 rfl rfl)
theorem dX7_conditions_1 : decode cX7_conditions 1 = .ok (.aload_n 0, 1) := dk_42 (dk_at dksX7_conditions_0 1 rfl rfl)
theorem dX7_conditions_2 : decode cX7_conditions 2 = .ok (.getfield 13, 3) := dk_180 0 13 (dk_at dksX7_conditions_0 2 rfl rfl)
theorem dX7_conditions_5 : decode cX7_conditions 5 = .ok (.if_icmp .ne 12, 3) := dk_160 0 12 (dk_at dksX7_conditions_0 5 rfl rfl)
theorem dX7_conditions_8 : decode cX7_conditions 8 = .ok (.iconst 1, 1) := dk_4 (dk_at dksX7_conditions_0 8 rfl rfl)
theorem dX7_conditions_9 : decode cX7_conditions 9 = .ok (.aload_n 0, 1) := dk_42 (dk_at dksX7_conditions_0 9 rfl rfl)
theorem dX7_conditions_10 : decode cX7_conditions 10 = .ok (.getfield 7, 3) := dk_180 0 7 (dk_at dksX7_conditions_0 10 rfl rfl)
theorem dX7_conditions_13 : decode cX7_conditions 13 = .ok (.ishl, 1) := dk_120 (dk_at dksX7_conditions_0 13 rfl rfl)
theorem dX7_conditions_14 : decode cX7_conditions 14 = .ok (.goto 9, 3) := dk_167 0 9 (dk_at dksX7_conditions_0 14 rfl rfl)
theorem dX7_conditions_17 : decode cX7_conditions 17 = .ok (.iconst 1, 1) := dk_4 (dk_at dksX7_conditions_0 17 rfl rfl)
theorem dX7_conditions_18 : decode cX7_conditions 18 = .ok (.aload_n 0, 1) := dk_42 (dk_at dksX7_conditions_0 18 rfl rfl)
theorem dX7_conditions_19 : decode cX7_conditions 19 = .ok (.getfield 13, 3) := dk_180 0 13 (dk_at dksX7_conditions_0 19 rfl rfl)
theorem dX7_conditions_22 : decode cX7_conditions 22 = .ok (.ishl, 1) := dk_120 (dk_at dksX7_conditions_0 22 rfl rfl)
theorem dX7_conditions_23 : decode cX7_conditions 23 = .ok (.ireturn, 1) := dk_172 (dk_at dksX7_conditions_0 23 rfl rfl)
abbrev cX7_last : ByteArray := prog_18_method_4_code
def yX7_last : MethodName := ⟨RX7, "last", "()I"⟩
def dkwX7_last_0 : List UInt8 := [42, 180, 0, 13, 42, 180, 0, 7, 184, 0, 16, 172]
abbrev dktX7_last_0 : List UInt8 := dkwX7_last_0 ++ []
theorem dksX7_last_0 : cX7_last.data.toList.drop 0 = dktX7_last_0 := by decide +kernel
theorem dX7_last_0 : decode cX7_last 0 = .ok (.aload_n 0, 1) := dk_42 (dk_at dksX7_last_0 0 rfl rfl)
theorem dX7_last_1 : decode cX7_last 1 = .ok (.getfield 13, 3) := dk_180 0 13 (dk_at dksX7_last_0 1 rfl rfl)
theorem dX7_last_4 : decode cX7_last 4 = .ok (.aload_n 0, 1) := dk_42 (dk_at dksX7_last_0 4 rfl rfl)
theorem dX7_last_5 : decode cX7_last 5 = .ok (.getfield 7, 3) := dk_180 0 7 (dk_at dksX7_last_0 5 rfl rfl)
theorem dX7_last_8 : decode cX7_last 8 = .ok (.invokestatic 16, 3) := dk_184 0 16 (dk_at dksX7_last_0 8 rfl rfl)
theorem dX7_last_11 : decode cX7_last 11 = .ok (.ireturn, 1) := dk_172 (dk_at dksX7_last_0 11 rfl rfl)
abbrev cX7_isKept : ByteArray := prog_18_method_8_code
def yX7_isKept : MethodName := ⟨RX7, "isKept", "(I[I)Z"⟩
def dkwX7_isKept_1 : List UInt8 := [184, 0, 46, 153, 0, 7, 4, 167, 0, 4, 3, 172]
abbrev dktX7_isKept_1 : List UInt8 := dkwX7_isKept_1 ++ []
def dkwX7_isKept_0 : List UInt8 := [44, 42, 180, 0, 13, 46, 42, 180, 0, 22, 160, 0, 20, 42, 27, 182, 0, 25, 44, 42, 180, 0, 7, 46]
abbrev dktX7_isKept_0 : List UInt8 := dkwX7_isKept_0 ++ dktX7_isKept_1
theorem dksX7_isKept_0 : cX7_isKept.data.toList.drop 0 = dktX7_isKept_0 := by decide +kernel
theorem dksX7_isKept_1 : cX7_isKept.data.toList.drop 24 = dktX7_isKept_1 := dk_seg dksX7_isKept_0 24 rfl rfl
theorem dX7_isKept_0 : decode cX7_isKept 0 = .ok (.aload_n 2, 1) := dk_44 (dk_at dksX7_isKept_0 0 rfl rfl)
theorem dX7_isKept_1 : decode cX7_isKept 1 = .ok (.aload_n 0, 1) := dk_42 (dk_at dksX7_isKept_0 1 rfl rfl)
theorem dX7_isKept_2 : decode cX7_isKept 2 = .ok (.getfield 13, 3) := dk_180 0 13 (dk_at dksX7_isKept_0 2 rfl rfl)
theorem dX7_isKept_5 : decode cX7_isKept 5 = .ok (.iaload, 1) := dk_46 (dk_at dksX7_isKept_0 5 rfl rfl)
theorem dX7_isKept_6 : decode cX7_isKept 6 = .ok (.aload_n 0, 1) := dk_42 (dk_at dksX7_isKept_0 6 rfl rfl)
theorem dX7_isKept_7 : decode cX7_isKept 7 = .ok (.getfield 22, 3) := dk_180 0 22 (dk_at dksX7_isKept_0 7 rfl rfl)
theorem dX7_isKept_10 : decode cX7_isKept 10 = .ok (.if_icmp .ne 20, 3) := dk_160 0 20 (dk_at dksX7_isKept_0 10 rfl rfl)
theorem dX7_isKept_13 : decode cX7_isKept 13 = .ok (.aload_n 0, 1) := dk_42 (dk_at dksX7_isKept_0 13 rfl rfl)
theorem dX7_isKept_14 : decode cX7_isKept 14 = .ok (.iload_n 1, 1) := dk_27 (dk_at dksX7_isKept_0 14 rfl rfl)
theorem dX7_isKept_15 : decode cX7_isKept 15 = .ok (.invokevirtual 25, 3) := dk_182 0 25 (dk_at dksX7_isKept_0 15 rfl rfl)
theorem dX7_isKept_18 : decode cX7_isKept 18 = .ok (.aload_n 2, 1) := dk_44 (dk_at dksX7_isKept_0 18 rfl rfl)
theorem dX7_isKept_19 : decode cX7_isKept 19 = .ok (.aload_n 0, 1) := dk_42 (dk_at dksX7_isKept_0 19 rfl rfl)
theorem dX7_isKept_20 : decode cX7_isKept 20 = .ok (.getfield 7, 3) := dk_180 0 7 (dk_at dksX7_isKept_0 20 rfl rfl)
theorem dX7_isKept_23 : decode cX7_isKept 23 = .ok (.iaload, 1) := dk_46 (dk_at dksX7_isKept_0 23 rfl rfl)
theorem dX7_isKept_24 : decode cX7_isKept 24 = .ok (.invokestatic 46, 3) := dk_184 0 46 (dk_at dksX7_isKept_1 0 rfl rfl)
theorem dX7_isKept_27 : decode cX7_isKept 27 = .ok (.ifCond .eq 7, 3) := dk_153 0 7 (dk_at dksX7_isKept_1 3 rfl rfl)
theorem dX7_isKept_30 : decode cX7_isKept 30 = .ok (.iconst 1, 1) := dk_4 (dk_at dksX7_isKept_1 6 rfl rfl)
theorem dX7_isKept_31 : decode cX7_isKept 31 = .ok (.goto 4, 3) := dk_167 0 4 (dk_at dksX7_isKept_1 7 rfl rfl)
theorem dX7_isKept_34 : decode cX7_isKept 34 = .ok (.iconst 0, 1) := dk_3 (dk_at dksX7_isKept_1 10 rfl rfl)
theorem dX7_isKept_35 : decode cX7_isKept 35 = .ok (.ireturn, 1) := dk_172 (dk_at dksX7_isKept_1 11 rfl rfl)
theorem q112 : (Jvm.Cond.initialized "VersionSolver$Tie") ∈ lw_all := lw_g (lw_at lw_m1 23 rfl) rfl
theorem q631 : (Jvm.Cond.instanceMethod ({ cls := "VersionSolver$Tie", name := "isOf", desc := "(II)Z" } : Jvm.MethodName)) ∈ lw_all := lw_g (lw_at lw_m3 62 rfl) rfl
theorem q632 : (Jvm.Cond.code ({ cls := "VersionSolver$Tie", name := "isOf", desc := "(II)Z" } : Jvm.MethodName) prog_18_method_9_code (3 : Nat) (Option.some Jvm.ClassFile.FieldType.boolean)) ∈ lw_all := lw_g (lw_at lw_m3 63 rfl) rfl
theorem q704 : (Jvm.Cond.fieldLink "VersionSolver$Tie" (13 : Nat) "VersionSolver$Tie" "pack" "I") ∈ lw_all := lw_g (lw_at lw_m3 135 rfl) rfl
theorem q705 : (Jvm.Cond.sameField "VersionSolver$Tie" "VersionSolver$Rule" "pack" "I") ∈ lw_all := lw_g (lw_at lw_m3 136 rfl) rfl
theorem q707 : (Jvm.Cond.fieldLink "VersionSolver$Tie" (22 : Nat) "VersionSolver$Tie" "version" "I") ∈ lw_all := lw_g (lw_at lw_m3 138 rfl) rfl
theorem q708 : (Jvm.Cond.sameField "VersionSolver$Tie" "VersionSolver$Rule" "version" "I") ∈ lw_all := lw_g (lw_at lw_m3 139 rfl) rfl
theorem q710 : (Jvm.Cond.fieldLink "VersionSolver$Tie" (7 : Nat) "VersionSolver$Tie" "other" "I") ∈ lw_all := lw_g (lw_at lw_m3 141 rfl) rfl
theorem q711 : (Jvm.Cond.sameField "VersionSolver$Tie" "VersionSolver$Rule" "other" "I") ∈ lw_all := lw_g (lw_at lw_m3 142 rfl) rfl
theorem q748 : (Jvm.Cond.instanceMethod ({ cls := "VersionSolver$Tie", name := "<init>", desc := "(IIII)V" } : Jvm.MethodName)) ∈ lw_all := lw_g (lw_at lw_m3 179 rfl) rfl
theorem q749 : (Jvm.Cond.code ({ cls := "VersionSolver$Tie", name := "<init>", desc := "(IIII)V" } : Jvm.MethodName) prog_18_method_1_code (5 : Nat) (Option.none : Option Jvm.ClassFile.FieldType)) ∈ lw_all := lw_g (lw_at lw_m3 180 rfl) rfl
theorem q750 : (Jvm.Cond.methodLink "VersionSolver$Tie" (1 : Nat) ({ cls := "VersionSolver$Rule", name := "<init>", desc := "([I)V" } : Jvm.MethodName)) ∈ lw_all := lw_g (lw_at lw_m3 181 rfl) rfl
theorem q876 : (Jvm.Cond.instanceMethod ({ cls := "VersionSolver$Tie", name := "ranged", desc := "()I" } : Jvm.MethodName)) ∈ lw_all := lw_g (lw_at lw_m4 67 rfl) rfl
theorem q877 : (Jvm.Cond.code ({ cls := "VersionSolver$Tie", name := "ranged", desc := "()I" } : Jvm.MethodName) prog_18_method_3_code (1 : Nat) (Option.some Jvm.ClassFile.FieldType.int)) ∈ lw_all := lw_g (lw_at lw_m4 68 rfl) rfl
theorem q896 : (Jvm.Cond.fieldLinkNest "VersionSolver$Tie" (29 : Nat) "VersionSolver$Trace" "masks" "[I" "VersionSolver") ∈ lw_tbl := lw_at lw_m4 87 rfl
theorem q898 : (Jvm.Cond.fieldLinkNest "VersionSolver$Tie" (35 : Nat) "VersionSolver$Trace" "left" "[I" "VersionSolver") ∈ lw_tbl := lw_at lw_m4 89 rfl
theorem q937 : (Jvm.Cond.instanceMethod ({ cls := "VersionSolver$Tie", name := "narrows", desc := "(LVersionSolver$Trace;I)V" } : Jvm.MethodName)) ∈ lw_all := lw_g (lw_at lw_m4 128 rfl) rfl
theorem q938 : (Jvm.Cond.code ({ cls := "VersionSolver$Tie", name := "narrows", desc := "(LVersionSolver$Trace;I)V" } : Jvm.MethodName) prog_18_method_7_code (3 : Nat) (Option.none : Option Jvm.ClassFile.FieldType)) ∈ lw_all := lw_g (lw_at lw_m4 129 rfl) rfl
theorem q939 : (Jvm.Cond.methodLink "VersionSolver$Tie" (38 : Nat) ({ cls := "VersionSolver$Tie", name := "impossible", desc := "(I[II)I" } : Jvm.MethodName)) ∈ lw_all := lw_g (lw_at lw_m4 130 rfl) rfl
theorem q940 : (Jvm.Cond.instanceMethod ({ cls := "VersionSolver$Tie", name := "impossible", desc := "(I[II)I" } : Jvm.MethodName)) ∈ lw_all := lw_g (lw_at lw_m4 131 rfl) rfl
theorem q941 : (Jvm.Cond.sameMethod "VersionSolver$Tie" "VersionSolver$Tie" "impossible" "(I[II)I") ∈ lw_all := lw_g (lw_at lw_m4 132 rfl) rfl
theorem q944 : (Jvm.Cond.code ({ cls := "VersionSolver$Tie", name := "impossible", desc := "(I[II)I" } : Jvm.MethodName) prog_18_method_6_code (4 : Nat) (Option.some Jvm.ClassFile.FieldType.int)) ∈ lw_all := lw_g (lw_at lw_m4 135 rfl) rfl
theorem q945 : (Jvm.Cond.methodLink "VersionSolver$Tie" (25 : Nat) ({ cls := "VersionSolver$Tie", name := "lets", desc := "(I)I" } : Jvm.MethodName)) ∈ lw_all := lw_g (lw_at lw_m4 136 rfl) rfl
theorem q946 : (Jvm.Cond.declares ({ cls := "VersionSolver$Tie", name := "lets", desc := "(I)I" } : Jvm.MethodName)) ∈ lw_tbl := lw_at lw_m4 137 rfl
theorem q947 : (Jvm.Cond.sameMethod "VersionSolver$Tie" "VersionSolver$Tie" "lets" "(I)I") ∈ lw_all := lw_g (lw_at lw_m4 138 rfl) rfl
theorem q954 : (Jvm.Cond.methodLink "VersionSolver$Tie" (42 : Nat) ({ cls := "VersionSolver$Trace", name := "leavesOut", desc := "(III)V" } : Jvm.MethodName)) ∈ lw_all := lw_g (lw_at lw_m4 145 rfl) rfl
theorem q962 : (Jvm.Cond.instanceMethod ({ cls := "VersionSolver$Tie", name := "conditions", desc := "(I)I" } : Jvm.MethodName)) ∈ lw_all := lw_g (lw_at lw_m4 153 rfl) rfl
theorem q963 : (Jvm.Cond.code ({ cls := "VersionSolver$Tie", name := "conditions", desc := "(I)I" } : Jvm.MethodName) prog_18_method_5_code (2 : Nat) (Option.some Jvm.ClassFile.FieldType.int)) ∈ lw_all := lw_g (lw_at lw_m4 154 rfl) rfl
theorem q1270 : (Jvm.Cond.declares ({ cls := "VersionSolver$Tie", name := "isOf", desc := "(II)Z" } : Jvm.MethodName)) ∈ lw_tbl := lw_at lw_m5 221 rfl
theorem q1273 : (Jvm.Cond.sameMethod "VersionSolver$Tie" "VersionSolver$Rule" "reaches" "(II)I") ∈ lw_all := lw_g (lw_at lw_m5 224 rfl) rfl
theorem q1275 : (Jvm.Cond.superclass "VersionSolver$Tie" "VersionSolver$Rule") ∈ lw_all := lw_g (lw_at lw_m5 226 rfl) rfl
theorem q1302 : (Jvm.Cond.instanceMethod ({ cls := "VersionSolver$Tie", name := "last", desc := "()I" } : Jvm.MethodName)) ∈ lw_all := lw_g (lw_at lw_m6 13 rfl) rfl
theorem q1303 : (Jvm.Cond.code ({ cls := "VersionSolver$Tie", name := "last", desc := "()I" } : Jvm.MethodName) prog_18_method_4_code (1 : Nat) (Option.some Jvm.ClassFile.FieldType.int)) ∈ lw_all := lw_g (lw_at lw_m6 14 rfl) rfl
theorem q1304 : (Jvm.Cond.methodLink "VersionSolver$Tie" (16 : Nat) ({ cls := "java/lang/Math", name := "max", desc := "(II)I" } : Jvm.MethodName)) ∈ lw_all := lw_g (lw_at lw_m6 15 rfl) rfl
theorem q1316 : (Jvm.Cond.instanceMethod ({ cls := "VersionSolver$Tie", name := "isKept", desc := "(I[I)Z" } : Jvm.MethodName)) ∈ lw_all := lw_g (lw_at lw_m6 27 rfl) rfl
theorem q1317 : (Jvm.Cond.code ({ cls := "VersionSolver$Tie", name := "isKept", desc := "(I[I)Z" } : Jvm.MethodName) prog_18_method_8_code (3 : Nat) (Option.some Jvm.ClassFile.FieldType.boolean)) ∈ lw_all := lw_g (lw_at lw_m6 28 rfl) rfl
theorem q1318 : (Jvm.Cond.methodLinkNest "VersionSolver$Tie" (46 : Nat) ({ cls := "VersionSolver", name := "has", desc := "(II)Z" } : Jvm.MethodName) "VersionSolver") ∈ lw_tbl := lw_at lw_m6 29 rfl
/-! VersionSolver$Need -/
set_option maxRecDepth 100000
def RX8 : String := "VersionSolver$Need"
def TX8 : u_T := fun k => match k with
  | 0 => ("VersionSolver$Rule", "pack", "I", true)
  | 1 => ("VersionSolver$Rule", "version", "I", true)
  | 2 => ("VersionSolver$Rule", "other", "I", true)
  | _ => ("VersionSolver$Rule", "range", "I", true)
def tyX8 : Nat → FieldType := fun k => match k with
  | 0 => .int
  | 1 => .int
  | 2 => .int
  | _ => .int
abbrev wsX80 : List Cond := u_ws RX8 TX8 4
theorem nmX8 : ∀ a, a < 4 → ∀ b, b < 4 → a ≠ b → (TX8 a).2.1 ≠ (TX8 b).2.1 := by decide +kernel
theorem tyX8_ok : ∀ k, k < 4 → parseFieldDescriptor (TX8 k).2.2.1 = some (tyX8 k) := by decide +kernel
abbrev cX8_init : ByteArray := prog_12_method_1_code
def yX8_init : MethodName := ⟨RX8, "<init>", "(IIII)V"⟩
def dkwX8_init_0 : List UInt8 := [42, 27, 28, 29, 21, 4, 183, 0, 1, 177]
abbrev dktX8_init_0 : List UInt8 := dkwX8_init_0 ++ []
theorem dksX8_init_0 : cX8_init.data.toList.drop 0 = dktX8_init_0 := by decide +kernel
theorem dX8_init_0 : decode cX8_init 0 = .ok (.aload_n 0, 1) := dk_42 (dk_at dksX8_init_0 0 rfl rfl)
theorem dX8_init_1 : decode cX8_init 1 = .ok (.iload_n 1, 1) := dk_27 (dk_at dksX8_init_0 1 rfl rfl)
theorem dX8_init_2 : decode cX8_init 2 = .ok (.iload_n 2, 1) := dk_28 (dk_at dksX8_init_0 2 rfl rfl)
theorem dX8_init_3 : decode cX8_init 3 = .ok (.iload_n 3, 1) := dk_29 (dk_at dksX8_init_0 3 rfl rfl)
theorem dX8_init_4 : decode cX8_init 4 = .ok (.iload 4, 2) := dk_21 4 (dk_at dksX8_init_0 4 rfl rfl)
theorem dX8_init_6 : decode cX8_init 6 = .ok (.invokespecial 1, 3) := dk_183 0 1 (dk_at dksX8_init_0 6 rfl rfl)
theorem dX8_init_9 : decode cX8_init 9 = .ok (.return_, 1) := dk_177 (dk_at dksX8_init_0 9 rfl rfl)
abbrev cX8_kind : ByteArray := prog_12_method_2_code
def yX8_kind : MethodName := ⟨RX8, "kind", "()I"⟩
theorem dX8_kind_0 : decode cX8_kind 0 = .ok (.iconst 1, 1) := by decide +kernel
theorem dX8_kind_1 : decode cX8_kind 1 = .ok (.ireturn, 1) := by decide +kernel
abbrev cX8_lets : ByteArray := prog_12_method_3_code
def yX8_lets : MethodName := ⟨RX8, "lets", "(I)I"⟩
theorem dX8_lets_0 : decode cX8_lets 0 = .ok (.iload_n 1, 1) := by decide +kernel
theorem dX8_lets_1 : decode cX8_lets 1 = .ok (.ireturn, 1) := by decide +kernel
abbrev cX8_reaches : ByteArray := prog_12_method_4_code
def yX8_reaches : MethodName := ⟨RX8, "reaches", "(II)I"⟩
def dkwX8_reaches_0 : List UInt8 := [42, 27, 28, 182, 0, 7, 153, 0, 10, 42, 180, 0, 13, 167, 0, 9, 42, 27, 28, 183, 0, 17, 172]
abbrev dktX8_reaches_0 : List UInt8 := dkwX8_reaches_0 ++ []
theorem dksX8_reaches_0 : cX8_reaches.data.toList.drop 0 = dktX8_reaches_0 := by decide +kernel
theorem dX8_reaches_0 : decode cX8_reaches 0 = .ok (.aload_n 0, 1) := dk_42 (dk_at dksX8_reaches_0 0 rfl rfl)
theorem dX8_reaches_1 : decode cX8_reaches 1 = .ok (.iload_n 1, 1) := dk_27 (dk_at dksX8_reaches_0 1 rfl rfl)
theorem dX8_reaches_2 : decode cX8_reaches 2 = .ok (.iload_n 2, 1) := dk_28 (dk_at dksX8_reaches_0 2 rfl rfl)
theorem dX8_reaches_3 : decode cX8_reaches 3 = .ok (.invokevirtual 7, 3) := dk_182 0 7 (dk_at dksX8_reaches_0 3 rfl rfl)
theorem dX8_reaches_6 : decode cX8_reaches 6 = .ok (.ifCond .eq 10, 3) := dk_153 0 10 (dk_at dksX8_reaches_0 6 rfl rfl)
theorem dX8_reaches_9 : decode cX8_reaches 9 = .ok (.aload_n 0, 1) := dk_42 (dk_at dksX8_reaches_0 9 rfl rfl)
theorem dX8_reaches_10 : decode cX8_reaches 10 = .ok (.getfield 13, 3) := dk_180 0 13 (dk_at dksX8_reaches_0 10 rfl rfl)
theorem dX8_reaches_13 : decode cX8_reaches 13 = .ok (.goto 9, 3) := dk_167 0 9 (dk_at dksX8_reaches_0 13 rfl rfl)
theorem dX8_reaches_16 : decode cX8_reaches 16 = .ok (.aload_n 0, 1) := dk_42 (dk_at dksX8_reaches_0 16 rfl rfl)
theorem dX8_reaches_17 : decode cX8_reaches 17 = .ok (.iload_n 1, 1) := dk_27 (dk_at dksX8_reaches_0 17 rfl rfl)
theorem dX8_reaches_18 : decode cX8_reaches 18 = .ok (.iload_n 2, 1) := dk_28 (dk_at dksX8_reaches_0 18 rfl rfl)
theorem dX8_reaches_19 : decode cX8_reaches 19 = .ok (.invokespecial 17, 3) := dk_183 0 17 (dk_at dksX8_reaches_0 19 rfl rfl)
theorem dX8_reaches_22 : decode cX8_reaches 22 = .ok (.ireturn, 1) := dk_172 (dk_at dksX8_reaches_0 22 rfl rfl)
theorem q113 : (Jvm.Cond.initialized "VersionSolver$Need") ∈ lw_all := lw_g (lw_at lw_m1 24 rfl) rfl
theorem q416 : (Jvm.Cond.selects "VersionSolver$Need" ({ cls := "java/lang/Object", name := "getClass", desc := "()Ljava/lang/Class;" } : Jvm.MethodName) ({ cls := "java/lang/Object", name := "getClass", desc := "()Ljava/lang/Class;" } : Jvm.MethodName)) ∈ lw_all := lw_g (lw_at lw_m2 87 rfl) rfl
theorem q634 : (Jvm.Cond.selects "VersionSolver$Need" ({ cls := "VersionSolver$Rule", name := "isOf", desc := "(II)Z" } : Jvm.MethodName) ({ cls := "VersionSolver$Tie", name := "isOf", desc := "(II)Z" } : Jvm.MethodName)) ∈ lw_all := lw_g (lw_at lw_m3 65 rfl) rfl
theorem q712 : (Jvm.Cond.fieldLink "VersionSolver$Need" (13 : Nat) "VersionSolver$Need" "other" "I") ∈ lw_all := lw_g (lw_at lw_m3 143 rfl) rfl
theorem q713 : (Jvm.Cond.sameField "VersionSolver$Need" "VersionSolver$Rule" "other" "I") ∈ lw_all := lw_g (lw_at lw_m3 144 rfl) rfl
theorem q743 : (Jvm.Cond.instantiable "VersionSolver$Need" (4 : Nat)) ∈ lw_all := lw_g (lw_at lw_m3 174 rfl) rfl
theorem q745 : (Jvm.Cond.instanceMethod ({ cls := "VersionSolver$Need", name := "<init>", desc := "(IIII)V" } : Jvm.MethodName)) ∈ lw_all := lw_g (lw_at lw_m3 176 rfl) rfl
theorem q746 : (Jvm.Cond.code ({ cls := "VersionSolver$Need", name := "<init>", desc := "(IIII)V" } : Jvm.MethodName) prog_12_method_1_code (5 : Nat) (Option.none : Option Jvm.ClassFile.FieldType)) ∈ lw_all := lw_g (lw_at lw_m3 177 rfl) rfl
theorem q747 : (Jvm.Cond.methodLink "VersionSolver$Need" (1 : Nat) ({ cls := "VersionSolver$Tie", name := "<init>", desc := "(IIII)V" } : Jvm.MethodName)) ∈ lw_all := lw_g (lw_at lw_m3 178 rfl) rfl
theorem q751 : (Jvm.Cond.laysFinal "VersionSolver$Need" "VersionSolver$Rule" "pack" "I") ∈ lw_all := lw_g (lw_at lw_m3 182 rfl) rfl
theorem q752 : (Jvm.Cond.laysFinal "VersionSolver$Need" "VersionSolver$Rule" "version" "I") ∈ lw_all := lw_g (lw_at lw_m3 183 rfl) rfl
theorem q753 : (Jvm.Cond.laysFinal "VersionSolver$Need" "VersionSolver$Rule" "other" "I") ∈ lw_all := lw_g (lw_at lw_m3 184 rfl) rfl
theorem q754 : (Jvm.Cond.laysFinal "VersionSolver$Need" "VersionSolver$Rule" "range" "I") ∈ lw_all := lw_g (lw_at lw_m3 185 rfl) rfl
theorem q755 : (Jvm.Cond.superclass "VersionSolver$Need" "VersionSolver$Tie") ∈ lw_all := lw_g (lw_at lw_m3 186 rfl) rfl
theorem q822 : (Jvm.Cond.selects "VersionSolver$Need" ({ cls := "VersionSolver$Rule", name := "kind", desc := "()I" } : Jvm.MethodName) ({ cls := "VersionSolver$Need", name := "kind", desc := "()I" } : Jvm.MethodName)) ∈ lw_all := lw_g (lw_at lw_m4 13 rfl) rfl
theorem q823 : (Jvm.Cond.instanceMethod ({ cls := "VersionSolver$Need", name := "kind", desc := "()I" } : Jvm.MethodName)) ∈ lw_all := lw_g (lw_at lw_m4 14 rfl) rfl
theorem q824 : (Jvm.Cond.code ({ cls := "VersionSolver$Need", name := "kind", desc := "()I" } : Jvm.MethodName) prog_12_method_2_code (1 : Nat) (Option.some Jvm.ClassFile.FieldType.int)) ∈ lw_all := lw_g (lw_at lw_m4 15 rfl) rfl
theorem q828 : (Jvm.Cond.selects "VersionSolver$Need" ({ cls := "VersionSolver$Rule", name := "what", desc := "(I)I" } : Jvm.MethodName) ({ cls := "VersionSolver$Rule", name := "what", desc := "(I)I" } : Jvm.MethodName)) ∈ lw_all := lw_g (lw_at lw_m4 19 rfl) rfl
theorem q841 : (Jvm.Cond.selects "VersionSolver$Need" ({ cls := "VersionSolver$Rule", name := "stateOf", desc := "(I)I" } : Jvm.MethodName) ({ cls := "VersionSolver$Rule", name := "stateOf", desc := "(I)I" } : Jvm.MethodName)) ∈ lw_all := lw_g (lw_at lw_m4 32 rfl) rfl
theorem q881 : (Jvm.Cond.selects "VersionSolver$Need" ({ cls := "VersionSolver$Rule", name := "ranged", desc := "()I" } : Jvm.MethodName) ({ cls := "VersionSolver$Tie", name := "ranged", desc := "()I" } : Jvm.MethodName)) ∈ lw_all := lw_g (lw_at lw_m4 72 rfl) rfl
theorem q943 : (Jvm.Cond.selects "VersionSolver$Need" ({ cls := "VersionSolver$Tie", name := "impossible", desc := "(I[II)I" } : Jvm.MethodName) ({ cls := "VersionSolver$Tie", name := "impossible", desc := "(I[II)I" } : Jvm.MethodName)) ∈ lw_all := lw_g (lw_at lw_m4 134 rfl) rfl
theorem q951 : (Jvm.Cond.selects "VersionSolver$Need" ({ cls := "VersionSolver$Tie", name := "lets", desc := "(I)I" } : Jvm.MethodName) ({ cls := "VersionSolver$Need", name := "lets", desc := "(I)I" } : Jvm.MethodName)) ∈ lw_all := lw_g (lw_at lw_m4 142 rfl) rfl
theorem q952 : (Jvm.Cond.instanceMethod ({ cls := "VersionSolver$Need", name := "lets", desc := "(I)I" } : Jvm.MethodName)) ∈ lw_all := lw_g (lw_at lw_m4 143 rfl) rfl
theorem q953 : (Jvm.Cond.code ({ cls := "VersionSolver$Need", name := "lets", desc := "(I)I" } : Jvm.MethodName) prog_12_method_3_code (2 : Nat) (Option.some Jvm.ClassFile.FieldType.int)) ∈ lw_all := lw_g (lw_at lw_m4 144 rfl) rfl
theorem q967 : (Jvm.Cond.selects "VersionSolver$Need" ({ cls := "VersionSolver$Rule", name := "conditions", desc := "(I)I" } : Jvm.MethodName) ({ cls := "VersionSolver$Tie", name := "conditions", desc := "(I)I" } : Jvm.MethodName)) ∈ lw_all := lw_g (lw_at lw_m4 158 rfl) rfl
theorem q1012 : (Jvm.Cond.selects "VersionSolver$Need" ({ cls := "VersionSolver$Rule", name := "narrows", desc := "(LVersionSolver$Trace;I)V" } : Jvm.MethodName) ({ cls := "VersionSolver$Tie", name := "narrows", desc := "(LVersionSolver$Trace;I)V" } : Jvm.MethodName)) ∈ lw_all := lw_g (lw_at lw_m4 203 rfl) rfl
theorem q1092 : (Jvm.Cond.selects "VersionSolver$Need" ({ cls := "VersionSolver$Rule", name := "impossible", desc := "(I[II)I" } : Jvm.MethodName) ({ cls := "VersionSolver$Tie", name := "impossible", desc := "(I[II)I" } : Jvm.MethodName)) ∈ lw_all := lw_g (lw_at lw_m5 43 rfl) rfl
theorem q1255 : (Jvm.Cond.selects "VersionSolver$Need" ({ cls := "VersionSolver$Rule", name := "wanted", desc := "()I" } : Jvm.MethodName) ({ cls := "VersionSolver$Rule", name := "wanted", desc := "()I" } : Jvm.MethodName)) ∈ lw_all := lw_g (lw_at lw_m5 206 rfl) rfl
theorem q1265 : (Jvm.Cond.selects "VersionSolver$Need" ({ cls := "VersionSolver$Rule", name := "reaches", desc := "(II)I" } : Jvm.MethodName) ({ cls := "VersionSolver$Need", name := "reaches", desc := "(II)I" } : Jvm.MethodName)) ∈ lw_all := lw_g (lw_at lw_m5 216 rfl) rfl
theorem q1266 : (Jvm.Cond.instanceMethod ({ cls := "VersionSolver$Need", name := "reaches", desc := "(II)I" } : Jvm.MethodName)) ∈ lw_all := lw_g (lw_at lw_m5 217 rfl) rfl
theorem q1267 : (Jvm.Cond.code ({ cls := "VersionSolver$Need", name := "reaches", desc := "(II)I" } : Jvm.MethodName) prog_12_method_4_code (3 : Nat) (Option.some Jvm.ClassFile.FieldType.int)) ∈ lw_all := lw_g (lw_at lw_m5 218 rfl) rfl
theorem q1268 : (Jvm.Cond.methodLink "VersionSolver$Need" (7 : Nat) ({ cls := "VersionSolver$Need", name := "isOf", desc := "(II)Z" } : Jvm.MethodName)) ∈ lw_all := lw_g (lw_at lw_m5 219 rfl) rfl
theorem q1269 : (Jvm.Cond.sameMethod "VersionSolver$Need" "VersionSolver$Tie" "isOf" "(II)Z") ∈ lw_all := lw_g (lw_at lw_m5 220 rfl) rfl
theorem q1271 : (Jvm.Cond.selects "VersionSolver$Need" ({ cls := "VersionSolver$Need", name := "isOf", desc := "(II)Z" } : Jvm.MethodName) ({ cls := "VersionSolver$Tie", name := "isOf", desc := "(II)Z" } : Jvm.MethodName)) ∈ lw_all := lw_g (lw_at lw_m5 222 rfl) rfl
theorem q1272 : (Jvm.Cond.methodLink "VersionSolver$Need" (17 : Nat) ({ cls := "VersionSolver$Tie", name := "reaches", desc := "(II)I" } : Jvm.MethodName)) ∈ lw_all := lw_g (lw_at lw_m5 223 rfl) rfl
theorem q1308 : (Jvm.Cond.selects "VersionSolver$Need" ({ cls := "VersionSolver$Rule", name := "last", desc := "()I" } : Jvm.MethodName) ({ cls := "VersionSolver$Tie", name := "last", desc := "()I" } : Jvm.MethodName)) ∈ lw_all := lw_g (lw_at lw_m6 19 rfl) rfl
theorem q1322 : (Jvm.Cond.selects "VersionSolver$Need" ({ cls := "VersionSolver$Rule", name := "isKept", desc := "(I[I)Z" } : Jvm.MethodName) ({ cls := "VersionSolver$Tie", name := "isKept", desc := "(I[I)Z" } : Jvm.MethodName)) ∈ lw_all := lw_g (lw_at lw_m6 33 rfl) rfl
theorem q2500 : (Jvm.Cond.castable "VersionSolver$Need" "VersionSolver$Rule") ∈ lw_tbl := lw_at lw_m11 11 rfl
theorem q2512 : (Jvm.Cond.castable "VersionSolver$Need" "java/lang/Object") ∈ lw_tbl := lw_at lw_m11 23 rfl
theorem in_X8 : ∀ w ∈ wsX80, w ∈ lw_all := lw_in wsX80 [751, 752, 753, 754] (by decide +kernel) (by decide +kernel)
/-! VersionSolver$Bar -/
set_option maxRecDepth 100000
def RX9 : String := "VersionSolver$Bar"
def TX9 : u_T := fun k => match k with
  | 0 => ("VersionSolver$Rule", "pack", "I", true)
  | 1 => ("VersionSolver$Rule", "version", "I", true)
  | 2 => ("VersionSolver$Rule", "other", "I", true)
  | _ => ("VersionSolver$Rule", "range", "I", true)
def tyX9 : Nat → FieldType := fun k => match k with
  | 0 => .int
  | 1 => .int
  | 2 => .int
  | _ => .int
abbrev wsX90 : List Cond := u_ws RX9 TX9 4
theorem nmX9 : ∀ a, a < 4 → ∀ b, b < 4 → a ≠ b → (TX9 a).2.1 ≠ (TX9 b).2.1 := by decide +kernel
theorem tyX9_ok : ∀ k, k < 4 → parseFieldDescriptor (TX9 k).2.2.1 = some (tyX9 k) := by decide +kernel
abbrev cX9_init : ByteArray := prog_3_method_1_code
def yX9_init : MethodName := ⟨RX9, "<init>", "(IIII)V"⟩
def dkwX9_init_0 : List UInt8 := [42, 27, 28, 29, 21, 4, 183, 0, 1, 177]
abbrev dktX9_init_0 : List UInt8 := dkwX9_init_0 ++ []
theorem dksX9_init_0 : cX9_init.data.toList.drop 0 = dktX9_init_0 := by decide +kernel
theorem dX9_init_0 : decode cX9_init 0 = .ok (.aload_n 0, 1) := dk_42 (dk_at dksX9_init_0 0 rfl rfl)
theorem dX9_init_1 : decode cX9_init 1 = .ok (.iload_n 1, 1) := dk_27 (dk_at dksX9_init_0 1 rfl rfl)
theorem dX9_init_2 : decode cX9_init 2 = .ok (.iload_n 2, 1) := dk_28 (dk_at dksX9_init_0 2 rfl rfl)
theorem dX9_init_3 : decode cX9_init 3 = .ok (.iload_n 3, 1) := dk_29 (dk_at dksX9_init_0 3 rfl rfl)
theorem dX9_init_4 : decode cX9_init 4 = .ok (.iload 4, 2) := dk_21 4 (dk_at dksX9_init_0 4 rfl rfl)
theorem dX9_init_6 : decode cX9_init 6 = .ok (.invokespecial 1, 3) := dk_183 0 1 (dk_at dksX9_init_0 6 rfl rfl)
theorem dX9_init_9 : decode cX9_init 9 = .ok (.return_, 1) := dk_177 (dk_at dksX9_init_0 9 rfl rfl)
abbrev cX9_kind : ByteArray := prog_3_method_2_code
def yX9_kind : MethodName := ⟨RX9, "kind", "()I"⟩
theorem dX9_kind_0 : decode cX9_kind 0 = .ok (.iconst 2, 1) := by decide +kernel
theorem dX9_kind_1 : decode cX9_kind 1 = .ok (.ireturn, 1) := by decide +kernel
abbrev cX9_lets : ByteArray := prog_3_method_3_code
def yX9_lets : MethodName := ⟨RX9, "lets", "(I)I"⟩
def dkwX9_lets_0 : List UInt8 := [27, 2, 130, 172]
abbrev dktX9_lets_0 : List UInt8 := dkwX9_lets_0 ++ []
theorem dksX9_lets_0 : cX9_lets.data.toList.drop 0 = dktX9_lets_0 := by decide +kernel
theorem dX9_lets_0 : decode cX9_lets 0 = .ok (.iload_n 1, 1) := dk_27 (dk_at dksX9_lets_0 0 rfl rfl)
theorem dX9_lets_1 : decode cX9_lets 1 = .ok (.iconst (-1), 1) := dk_2 (dk_at dksX9_lets_0 1 rfl rfl)
theorem dX9_lets_2 : decode cX9_lets 2 = .ok (.ixor, 1) := dk_130 (dk_at dksX9_lets_0 2 rfl rfl)
theorem dX9_lets_3 : decode cX9_lets 3 = .ok (.ireturn, 1) := dk_172 (dk_at dksX9_lets_0 3 rfl rfl)
theorem q114 : (Jvm.Cond.initialized "VersionSolver$Bar") ∈ lw_all := lw_g (lw_at lw_m1 25 rfl) rfl
theorem q407 : (Jvm.Cond.selects "VersionSolver$Bar" ({ cls := "java/lang/Object", name := "getClass", desc := "()Ljava/lang/Class;" } : Jvm.MethodName) ({ cls := "java/lang/Object", name := "getClass", desc := "()Ljava/lang/Class;" } : Jvm.MethodName)) ∈ lw_all := lw_g (lw_at lw_m2 78 rfl) rfl
theorem q630 : (Jvm.Cond.selects "VersionSolver$Bar" ({ cls := "VersionSolver$Rule", name := "isOf", desc := "(II)Z" } : Jvm.MethodName) ({ cls := "VersionSolver$Tie", name := "isOf", desc := "(II)Z" } : Jvm.MethodName)) ∈ lw_all := lw_g (lw_at lw_m3 61 rfl) rfl
theorem q761 : (Jvm.Cond.instantiable "VersionSolver$Bar" (4 : Nat)) ∈ lw_all := lw_g (lw_at lw_m3 192 rfl) rfl
theorem q763 : (Jvm.Cond.instanceMethod ({ cls := "VersionSolver$Bar", name := "<init>", desc := "(IIII)V" } : Jvm.MethodName)) ∈ lw_all := lw_g (lw_at lw_m3 194 rfl) rfl
theorem q764 : (Jvm.Cond.code ({ cls := "VersionSolver$Bar", name := "<init>", desc := "(IIII)V" } : Jvm.MethodName) prog_3_method_1_code (5 : Nat) (Option.none : Option Jvm.ClassFile.FieldType)) ∈ lw_all := lw_g (lw_at lw_m3 195 rfl) rfl
theorem q765 : (Jvm.Cond.methodLink "VersionSolver$Bar" (1 : Nat) ({ cls := "VersionSolver$Tie", name := "<init>", desc := "(IIII)V" } : Jvm.MethodName)) ∈ lw_all := lw_g (lw_at lw_m3 196 rfl) rfl
theorem q766 : (Jvm.Cond.laysFinal "VersionSolver$Bar" "VersionSolver$Rule" "pack" "I") ∈ lw_all := lw_g (lw_at lw_m3 197 rfl) rfl
theorem q767 : (Jvm.Cond.laysFinal "VersionSolver$Bar" "VersionSolver$Rule" "version" "I") ∈ lw_all := lw_g (lw_at lw_m3 198 rfl) rfl
theorem q768 : (Jvm.Cond.laysFinal "VersionSolver$Bar" "VersionSolver$Rule" "other" "I") ∈ lw_all := lw_g (lw_at lw_m3 199 rfl) rfl
theorem q769 : (Jvm.Cond.laysFinal "VersionSolver$Bar" "VersionSolver$Rule" "range" "I") ∈ lw_all := lw_g (lw_at lw_m3 200 rfl) rfl
theorem q770 : (Jvm.Cond.superclass "VersionSolver$Bar" "VersionSolver$Tie") ∈ lw_all := lw_g (lw_at lw_m3 201 rfl) rfl
theorem q798 : (Jvm.Cond.selects "VersionSolver$Bar" ({ cls := "VersionSolver$Rule", name := "what", desc := "(I)I" } : Jvm.MethodName) ({ cls := "VersionSolver$Rule", name := "what", desc := "(I)I" } : Jvm.MethodName)) ∈ lw_all := lw_g (lw_at lw_m3 229 rfl) rfl
theorem q816 : (Jvm.Cond.selects "VersionSolver$Bar" ({ cls := "VersionSolver$Rule", name := "kind", desc := "()I" } : Jvm.MethodName) ({ cls := "VersionSolver$Bar", name := "kind", desc := "()I" } : Jvm.MethodName)) ∈ lw_all := lw_g (lw_at lw_m4 7 rfl) rfl
theorem q817 : (Jvm.Cond.instanceMethod ({ cls := "VersionSolver$Bar", name := "kind", desc := "()I" } : Jvm.MethodName)) ∈ lw_all := lw_g (lw_at lw_m4 8 rfl) rfl
theorem q818 : (Jvm.Cond.code ({ cls := "VersionSolver$Bar", name := "kind", desc := "()I" } : Jvm.MethodName) prog_3_method_2_code (1 : Nat) (Option.some Jvm.ClassFile.FieldType.int)) ∈ lw_all := lw_g (lw_at lw_m4 9 rfl) rfl
theorem q837 : (Jvm.Cond.selects "VersionSolver$Bar" ({ cls := "VersionSolver$Rule", name := "stateOf", desc := "(I)I" } : Jvm.MethodName) ({ cls := "VersionSolver$Rule", name := "stateOf", desc := "(I)I" } : Jvm.MethodName)) ∈ lw_all := lw_g (lw_at lw_m4 28 rfl) rfl
theorem q875 : (Jvm.Cond.selects "VersionSolver$Bar" ({ cls := "VersionSolver$Rule", name := "ranged", desc := "()I" } : Jvm.MethodName) ({ cls := "VersionSolver$Tie", name := "ranged", desc := "()I" } : Jvm.MethodName)) ∈ lw_all := lw_g (lw_at lw_m4 66 rfl) rfl
theorem q936 : (Jvm.Cond.selects "VersionSolver$Bar" ({ cls := "VersionSolver$Rule", name := "narrows", desc := "(LVersionSolver$Trace;I)V" } : Jvm.MethodName) ({ cls := "VersionSolver$Tie", name := "narrows", desc := "(LVersionSolver$Trace;I)V" } : Jvm.MethodName)) ∈ lw_all := lw_g (lw_at lw_m4 127 rfl) rfl
theorem q942 : (Jvm.Cond.selects "VersionSolver$Bar" ({ cls := "VersionSolver$Tie", name := "impossible", desc := "(I[II)I" } : Jvm.MethodName) ({ cls := "VersionSolver$Tie", name := "impossible", desc := "(I[II)I" } : Jvm.MethodName)) ∈ lw_all := lw_g (lw_at lw_m4 133 rfl) rfl
theorem q948 : (Jvm.Cond.selects "VersionSolver$Bar" ({ cls := "VersionSolver$Tie", name := "lets", desc := "(I)I" } : Jvm.MethodName) ({ cls := "VersionSolver$Bar", name := "lets", desc := "(I)I" } : Jvm.MethodName)) ∈ lw_all := lw_g (lw_at lw_m4 139 rfl) rfl
theorem q949 : (Jvm.Cond.instanceMethod ({ cls := "VersionSolver$Bar", name := "lets", desc := "(I)I" } : Jvm.MethodName)) ∈ lw_all := lw_g (lw_at lw_m4 140 rfl) rfl
theorem q950 : (Jvm.Cond.code ({ cls := "VersionSolver$Bar", name := "lets", desc := "(I)I" } : Jvm.MethodName) prog_3_method_3_code (2 : Nat) (Option.some Jvm.ClassFile.FieldType.int)) ∈ lw_all := lw_g (lw_at lw_m4 141 rfl) rfl
theorem q961 : (Jvm.Cond.selects "VersionSolver$Bar" ({ cls := "VersionSolver$Rule", name := "conditions", desc := "(I)I" } : Jvm.MethodName) ({ cls := "VersionSolver$Tie", name := "conditions", desc := "(I)I" } : Jvm.MethodName)) ∈ lw_all := lw_g (lw_at lw_m4 152 rfl) rfl
theorem q1090 : (Jvm.Cond.selects "VersionSolver$Bar" ({ cls := "VersionSolver$Rule", name := "impossible", desc := "(I[II)I" } : Jvm.MethodName) ({ cls := "VersionSolver$Tie", name := "impossible", desc := "(I[II)I" } : Jvm.MethodName)) ∈ lw_all := lw_g (lw_at lw_m5 41 rfl) rfl
theorem q1253 : (Jvm.Cond.selects "VersionSolver$Bar" ({ cls := "VersionSolver$Rule", name := "wanted", desc := "()I" } : Jvm.MethodName) ({ cls := "VersionSolver$Rule", name := "wanted", desc := "()I" } : Jvm.MethodName)) ∈ lw_all := lw_g (lw_at lw_m5 204 rfl) rfl
theorem q1263 : (Jvm.Cond.selects "VersionSolver$Bar" ({ cls := "VersionSolver$Rule", name := "reaches", desc := "(II)I" } : Jvm.MethodName) ({ cls := "VersionSolver$Rule", name := "reaches", desc := "(II)I" } : Jvm.MethodName)) ∈ lw_all := lw_g (lw_at lw_m5 214 rfl) rfl
theorem q1301 : (Jvm.Cond.selects "VersionSolver$Bar" ({ cls := "VersionSolver$Rule", name := "last", desc := "()I" } : Jvm.MethodName) ({ cls := "VersionSolver$Tie", name := "last", desc := "()I" } : Jvm.MethodName)) ∈ lw_all := lw_g (lw_at lw_m6 12 rfl) rfl
theorem q1315 : (Jvm.Cond.selects "VersionSolver$Bar" ({ cls := "VersionSolver$Rule", name := "isKept", desc := "(I[I)Z" } : Jvm.MethodName) ({ cls := "VersionSolver$Tie", name := "isKept", desc := "(I[I)Z" } : Jvm.MethodName)) ∈ lw_all := lw_g (lw_at lw_m6 26 rfl) rfl
theorem q2498 : (Jvm.Cond.castable "VersionSolver$Bar" "VersionSolver$Rule") ∈ lw_tbl := lw_at lw_m11 9 rfl
theorem q2513 : (Jvm.Cond.castable "VersionSolver$Bar" "java/lang/Object") ∈ lw_tbl := lw_at lw_m11 24 rfl
theorem in_X9 : ∀ w ∈ wsX90, w ∈ lw_all := lw_in wsX90 [766, 767, 768, 769] (by decide +kernel) (by decide +kernel)
/-! VersionSolver$Trace -/
set_option maxRecDepth 100000
def RX10 : String := "VersionSolver$Trace"
def TX10 : u_T := fun k => match k with
  | 0 => ("VersionSolver$Trace", "board", "LVersionSolver$Board;", true)
  | 1 => ("VersionSolver$Trace", "masks", "[I", true)
  | 2 => ("VersionSolver$Trace", "left", "[I", true)
  | 3 => ("VersionSolver$Trace", "steps", "Ljava/util/ArrayList;", true)
  | _ => ("VersionSolver$Trace", "conflict", "I", false)
def tyX10 : Nat → FieldType := fun k => match k with
  | 0 => .object "VersionSolver$Board"
  | 1 => .array .int
  | 2 => .array .int
  | 3 => .object "java/util/ArrayList"
  | _ => .int
abbrev wsX100 : List Cond := u_ws RX10 TX10 5
theorem nmX10 : ∀ a, a < 5 → ∀ b, b < 5 → a ≠ b → (TX10 a).2.1 ≠ (TX10 b).2.1 := by decide +kernel
theorem tyX10_ok : ∀ k, k < 5 → parseFieldDescriptor (TX10 k).2.2.1 = some (tyX10 k) := by decide +kernel
abbrev cX10_init : ByteArray := prog_19_method_1_code
def yX10_init : MethodName := ⟨RX10, "<init>", "(LVersionSolver$Board;)V"⟩
def dkwX10_init_3 : List UInt8 := [192, 0, 49, 182, 0, 51, 79, 132, 2, 1, 167, 255, 222, 177]
abbrev dktX10_init_3 : List UInt8 := dkwX10_init_3 ++ []
def dkwX10_init_2 : List UInt8 := [180, 0, 38, 182, 0, 41, 162, 0, 29, 42, 180, 0, 9, 28, 43, 180, 0, 38, 28, 182, 0, 45]
abbrev dktX10_init_2 : List UInt8 := dkwX10_init_2 ++ dktX10_init_3
def dkwX10_init_1 : List UInt8 := [16, 251, 181, 0, 22, 42, 43, 181, 0, 26, 42, 43, 182, 0, 30, 181, 0, 36, 3, 61, 28, 43]
abbrev dktX10_init_1 : List UInt8 := dkwX10_init_1 ++ dktX10_init_2
def dkwX10_init_0 : List UInt8 := [42, 183, 0, 3, 42, 16, 6, 188, 10, 181, 0, 9, 42, 187, 0, 15, 89, 183, 0, 17, 181, 0, 18, 42]
abbrev dktX10_init_0 : List UInt8 := dkwX10_init_0 ++ dktX10_init_1
theorem dksX10_init_0 : cX10_init.data.toList.drop 0 = dktX10_init_0 := by decide +kernel
theorem dksX10_init_1 : cX10_init.data.toList.drop 24 = dktX10_init_1 := dk_seg dksX10_init_0 24 rfl rfl
theorem dksX10_init_2 : cX10_init.data.toList.drop 46 = dktX10_init_2 := dk_seg dksX10_init_1 22 rfl rfl
theorem dksX10_init_3 : cX10_init.data.toList.drop 68 = dktX10_init_3 := dk_seg dksX10_init_2 22 rfl rfl
theorem dX10_init_0 : decode cX10_init 0 = .ok (.aload_n 0, 1) := dk_42 (dk_at dksX10_init_0 0 rfl rfl)
theorem dX10_init_1 : decode cX10_init 1 = .ok (.invokespecial 3, 3) := dk_183 0 3 (dk_at dksX10_init_0 1 rfl rfl)
theorem dX10_init_4 : decode cX10_init 4 = .ok (.aload_n 0, 1) := dk_42 (dk_at dksX10_init_0 4 rfl rfl)
theorem dX10_init_5 : decode cX10_init 5 = .ok (.bipush 6, 2) := dk_16 6 (dk_at dksX10_init_0 5 rfl rfl)
theorem dX10_init_7 : decode cX10_init 7 = .ok (.newarray .int, 2) := dk_188_10 (dk_at dksX10_init_0 7 rfl rfl)
theorem dX10_init_9 : decode cX10_init 9 = .ok (.putfield 9, 3) := dk_181 0 9 (dk_at dksX10_init_0 9 rfl rfl)
theorem dX10_init_12 : decode cX10_init 12 = .ok (.aload_n 0, 1) := dk_42 (dk_at dksX10_init_0 12 rfl rfl)
theorem dX10_init_13 : decode cX10_init 13 = .ok (.new 15, 3) := dk_187 0 15 (dk_at dksX10_init_0 13 rfl rfl)
theorem dX10_init_16 : decode cX10_init 16 = .ok (.dup, 1) := dk_89 (dk_at dksX10_init_0 16 rfl rfl)
theorem dX10_init_17 : decode cX10_init 17 = .ok (.invokespecial 17, 3) := dk_183 0 17 (dk_at dksX10_init_0 17 rfl rfl)
theorem dX10_init_20 : decode cX10_init 20 = .ok (.putfield 18, 3) := dk_181 0 18 (dk_at dksX10_init_0 20 rfl rfl)
theorem dX10_init_23 : decode cX10_init 23 = .ok (.aload_n 0, 1) := dk_42 (dk_at dksX10_init_0 23 rfl rfl)
theorem dX10_init_24 : decode cX10_init 24 = .ok (.bipush (-5), 2) := dk_16 251 (dk_at dksX10_init_1 0 rfl rfl)
theorem dX10_init_26 : decode cX10_init 26 = .ok (.putfield 22, 3) := dk_181 0 22 (dk_at dksX10_init_1 2 rfl rfl)
theorem dX10_init_29 : decode cX10_init 29 = .ok (.aload_n 0, 1) := dk_42 (dk_at dksX10_init_1 5 rfl rfl)
theorem dX10_init_30 : decode cX10_init 30 = .ok (.aload_n 1, 1) := dk_43 (dk_at dksX10_init_1 6 rfl rfl)
theorem dX10_init_31 : decode cX10_init 31 = .ok (.putfield 26, 3) := dk_181 0 26 (dk_at dksX10_init_1 7 rfl rfl)
theorem dX10_init_34 : decode cX10_init 34 = .ok (.aload_n 0, 1) := dk_42 (dk_at dksX10_init_1 10 rfl rfl)
theorem dX10_init_35 : decode cX10_init 35 = .ok (.aload_n 1, 1) := dk_43 (dk_at dksX10_init_1 11 rfl rfl)
theorem dX10_init_36 : decode cX10_init 36 = .ok (.invokevirtual 30, 3) := dk_182 0 30 (dk_at dksX10_init_1 12 rfl rfl)
theorem dX10_init_39 : decode cX10_init 39 = .ok (.putfield 36, 3) := dk_181 0 36 (dk_at dksX10_init_1 15 rfl rfl)
theorem dX10_init_42 : decode cX10_init 42 = .ok (.iconst 0, 1) := dk_3 (dk_at dksX10_init_1 18 rfl rfl)
theorem dX10_init_43 : decode cX10_init 43 = .ok (.istore_n 2, 1) := dk_61 (dk_at dksX10_init_1 19 rfl rfl)
theorem dX10_init_44 : decode cX10_init 44 = .ok (.iload_n 2, 1) := dk_28 (dk_at dksX10_init_1 20 rfl rfl)
theorem dX10_init_45 : decode cX10_init 45 = .ok (.aload_n 1, 1) := dk_43 (dk_at dksX10_init_1 21 rfl rfl)
theorem dX10_init_46 : decode cX10_init 46 = .ok (.getfield 38, 3) := dk_180 0 38 (dk_at dksX10_init_2 0 rfl rfl)
theorem dX10_init_49 : decode cX10_init 49 = .ok (.invokevirtual 41, 3) := dk_182 0 41 (dk_at dksX10_init_2 3 rfl rfl)
theorem dX10_init_52 : decode cX10_init 52 = .ok (.if_icmp .ge 29, 3) := dk_162 0 29 (dk_at dksX10_init_2 6 rfl rfl)
theorem dX10_init_55 : decode cX10_init 55 = .ok (.aload_n 0, 1) := dk_42 (dk_at dksX10_init_2 9 rfl rfl)
theorem dX10_init_56 : decode cX10_init 56 = .ok (.getfield 9, 3) := dk_180 0 9 (dk_at dksX10_init_2 10 rfl rfl)
theorem dX10_init_59 : decode cX10_init 59 = .ok (.iload_n 2, 1) := dk_28 (dk_at dksX10_init_2 13 rfl rfl)
theorem dX10_init_60 : decode cX10_init 60 = .ok (.aload_n 1, 1) := dk_43 (dk_at dksX10_init_2 14 rfl rfl)
theorem dX10_init_61 : decode cX10_init 61 = .ok (.getfield 38, 3) := dk_180 0 38 (dk_at dksX10_init_2 15 rfl rfl)
theorem dX10_init_64 : decode cX10_init 64 = .ok (.iload_n 2, 1) := dk_28 (dk_at dksX10_init_2 18 rfl rfl)
theorem dX10_init_65 : decode cX10_init 65 = .ok (.invokevirtual 45, 3) := dk_182 0 45 (dk_at dksX10_init_2 19 rfl rfl)
theorem dX10_init_68 : decode cX10_init 68 = .ok (.checkcast 49, 3) := dk_192 0 49 (dk_at dksX10_init_3 0 rfl rfl)
theorem dX10_init_71 : decode cX10_init 71 = .ok (.invokevirtual 51, 3) := dk_182 0 51 (dk_at dksX10_init_3 3 rfl rfl)
theorem dX10_init_74 : decode cX10_init 74 = .ok (.iastore, 1) := dk_79 (dk_at dksX10_init_3 6 rfl rfl)
theorem dX10_init_75 : decode cX10_init 75 = .ok (.iinc 2 1, 3) := dk_132 2 1 (dk_at dksX10_init_3 7 rfl rfl)
theorem dX10_init_78 : decode cX10_init 78 = .ok (.goto (-34), 3) := dk_167 255 222 (dk_at dksX10_init_3 10 rfl rfl)
theorem dX10_init_81 : decode cX10_init 81 = .ok (.return_, 1) := dk_177 (dk_at dksX10_init_3 13 rfl rfl)
abbrev cX10_runs : ByteArray := prog_19_method_6_code
def yX10_runs : MethodName := ⟨RX10, "runs", "(I)LVersionSolver$Trace;"⟩
def dkwX10_runs_3 : List UInt8 := [167, 255, 192, 42, 176]
abbrev dktX10_runs_3 : List UInt8 := dkwX10_runs_3 ++ []
def dkwX10_runs_2 : List UInt8 := [28, 96, 45, 180, 0, 99, 4, 45, 180, 0, 100, 120, 2, 130, 182, 0, 103, 42, 182, 0, 91, 132, 2, 1]
abbrev dktX10_runs_2 : List UInt8 := dkwX10_runs_2 ++ dktX10_runs_3
def dkwX10_runs_1 : List UInt8 := [184, 0, 59, 153, 0, 42, 42, 180, 0, 26, 180, 0, 94, 28, 182, 0, 45, 192, 0, 97, 78, 42, 16, 100]
abbrev dktX10_runs_1 : List UInt8 := dkwX10_runs_1 ++ dktX10_runs_2
def dkwX10_runs_0 : List UInt8 := [42, 182, 0, 91, 3, 61, 28, 42, 180, 0, 26, 180, 0, 94, 182, 0, 41, 162, 0, 56, 27, 28]
abbrev dktX10_runs_0 : List UInt8 := dkwX10_runs_0 ++ dktX10_runs_1
theorem dksX10_runs_0 : cX10_runs.data.toList.drop 0 = dktX10_runs_0 := by decide +kernel
theorem dksX10_runs_1 : cX10_runs.data.toList.drop 22 = dktX10_runs_1 := dk_seg dksX10_runs_0 22 rfl rfl
theorem dksX10_runs_2 : cX10_runs.data.toList.drop 46 = dktX10_runs_2 := dk_seg dksX10_runs_1 24 rfl rfl
theorem dksX10_runs_3 : cX10_runs.data.toList.drop 70 = dktX10_runs_3 := dk_seg dksX10_runs_2 24 rfl rfl
theorem dX10_runs_0 : decode cX10_runs 0 = .ok (.aload_n 0, 1) := dk_42 (dk_at dksX10_runs_0 0 rfl rfl)
theorem dX10_runs_1 : decode cX10_runs 1 = .ok (.invokevirtual 91, 3) := dk_182 0 91 (dk_at dksX10_runs_0 1 rfl rfl)
theorem dX10_runs_4 : decode cX10_runs 4 = .ok (.iconst 0, 1) := dk_3 (dk_at dksX10_runs_0 4 rfl rfl)
theorem dX10_runs_5 : decode cX10_runs 5 = .ok (.istore_n 2, 1) := dk_61 (dk_at dksX10_runs_0 5 rfl rfl)
theorem dX10_runs_6 : decode cX10_runs 6 = .ok (.iload_n 2, 1) := dk_28 (dk_at dksX10_runs_0 6 rfl rfl)
theorem dX10_runs_7 : decode cX10_runs 7 = .ok (.aload_n 0, 1) := dk_42 (dk_at dksX10_runs_0 7 rfl rfl)
theorem dX10_runs_8 : decode cX10_runs 8 = .ok (.getfield 26, 3) := dk_180 0 26 (dk_at dksX10_runs_0 8 rfl rfl)
theorem dX10_runs_11 : decode cX10_runs 11 = .ok (.getfield 94, 3) := dk_180 0 94 (dk_at dksX10_runs_0 11 rfl rfl)
theorem dX10_runs_14 : decode cX10_runs 14 = .ok (.invokevirtual 41, 3) := dk_182 0 41 (dk_at dksX10_runs_0 14 rfl rfl)
theorem dX10_runs_17 : decode cX10_runs 17 = .ok (.if_icmp .ge 56, 3) := dk_162 0 56 (dk_at dksX10_runs_0 17 rfl rfl)
theorem dX10_runs_20 : decode cX10_runs 20 = .ok (.iload_n 1, 1) := dk_27 (dk_at dksX10_runs_0 20 rfl rfl)
theorem dX10_runs_21 : decode cX10_runs 21 = .ok (.iload_n 2, 1) := dk_28 (dk_at dksX10_runs_0 21 rfl rfl)
theorem dX10_runs_22 : decode cX10_runs 22 = .ok (.invokestatic 59, 3) := dk_184 0 59 (dk_at dksX10_runs_1 0 rfl rfl)
theorem dX10_runs_25 : decode cX10_runs 25 = .ok (.ifCond .eq 42, 3) := dk_153 0 42 (dk_at dksX10_runs_1 3 rfl rfl)
theorem dX10_runs_28 : decode cX10_runs 28 = .ok (.aload_n 0, 1) := dk_42 (dk_at dksX10_runs_1 6 rfl rfl)
theorem dX10_runs_29 : decode cX10_runs 29 = .ok (.getfield 26, 3) := dk_180 0 26 (dk_at dksX10_runs_1 7 rfl rfl)
theorem dX10_runs_32 : decode cX10_runs 32 = .ok (.getfield 94, 3) := dk_180 0 94 (dk_at dksX10_runs_1 10 rfl rfl)
theorem dX10_runs_35 : decode cX10_runs 35 = .ok (.iload_n 2, 1) := dk_28 (dk_at dksX10_runs_1 13 rfl rfl)
theorem dX10_runs_36 : decode cX10_runs 36 = .ok (.invokevirtual 45, 3) := dk_182 0 45 (dk_at dksX10_runs_1 14 rfl rfl)
theorem dX10_runs_39 : decode cX10_runs 39 = .ok (.checkcast 97, 3) := dk_192 0 97 (dk_at dksX10_runs_1 17 rfl rfl)
theorem dX10_runs_42 : decode cX10_runs 42 = .ok (.astore_n 3, 1) := dk_78 (dk_at dksX10_runs_1 20 rfl rfl)
theorem dX10_runs_43 : decode cX10_runs 43 = .ok (.aload_n 0, 1) := dk_42 (dk_at dksX10_runs_1 21 rfl rfl)
theorem dX10_runs_44 : decode cX10_runs 44 = .ok (.bipush 100, 2) := dk_16 100 (dk_at dksX10_runs_1 22 rfl rfl)
theorem dX10_runs_46 : decode cX10_runs 46 = .ok (.iload_n 2, 1) := dk_28 (dk_at dksX10_runs_2 0 rfl rfl)
theorem dX10_runs_47 : decode cX10_runs 47 = .ok (.iadd, 1) := dk_96 (dk_at dksX10_runs_2 1 rfl rfl)
theorem dX10_runs_48 : decode cX10_runs 48 = .ok (.aload_n 3, 1) := dk_45 (dk_at dksX10_runs_2 2 rfl rfl)
theorem dX10_runs_49 : decode cX10_runs 49 = .ok (.getfield 99, 3) := dk_180 0 99 (dk_at dksX10_runs_2 3 rfl rfl)
theorem dX10_runs_52 : decode cX10_runs 52 = .ok (.iconst 1, 1) := dk_4 (dk_at dksX10_runs_2 6 rfl rfl)
theorem dX10_runs_53 : decode cX10_runs 53 = .ok (.aload_n 3, 1) := dk_45 (dk_at dksX10_runs_2 7 rfl rfl)
theorem dX10_runs_54 : decode cX10_runs 54 = .ok (.getfield 100, 3) := dk_180 0 100 (dk_at dksX10_runs_2 8 rfl rfl)
theorem dX10_runs_57 : decode cX10_runs 57 = .ok (.ishl, 1) := dk_120 (dk_at dksX10_runs_2 11 rfl rfl)
theorem dX10_runs_58 : decode cX10_runs 58 = .ok (.iconst (-1), 1) := dk_2 (dk_at dksX10_runs_2 12 rfl rfl)
theorem dX10_runs_59 : decode cX10_runs 59 = .ok (.ixor, 1) := dk_130 (dk_at dksX10_runs_2 13 rfl rfl)
theorem dX10_runs_60 : decode cX10_runs 60 = .ok (.invokevirtual 103, 3) := dk_182 0 103 (dk_at dksX10_runs_2 14 rfl rfl)
theorem dX10_runs_63 : decode cX10_runs 63 = .ok (.aload_n 0, 1) := dk_42 (dk_at dksX10_runs_2 17 rfl rfl)
theorem dX10_runs_64 : decode cX10_runs 64 = .ok (.invokevirtual 91, 3) := dk_182 0 91 (dk_at dksX10_runs_2 18 rfl rfl)
theorem dX10_runs_67 : decode cX10_runs 67 = .ok (.iinc 2 1, 3) := dk_132 2 1 (dk_at dksX10_runs_2 21 rfl rfl)
theorem dX10_runs_70 : decode cX10_runs 70 = .ok (.goto (-64), 3) := dk_167 255 192 (dk_at dksX10_runs_3 0 rfl rfl)
theorem dX10_runs_73 : decode cX10_runs 73 = .ok (.aload_n 0, 1) := dk_42 (dk_at dksX10_runs_3 3 rfl rfl)
theorem dX10_runs_74 : decode cX10_runs 74 = .ok (.areturn, 1) := dk_176 (dk_at dksX10_runs_3 4 rfl rfl)
abbrev cX10_settles : ByteArray := prog_19_method_5_code
def yX10_settles : MethodName := ⟨RX10, "settles", "()V"⟩
def dkwX10_settles_1 : List UInt8 := [42, 180, 0, 22, 156, 0, 7, 4, 167, 0, 4, 3, 60, 167, 255, 232, 177]
abbrev dktX10_settles_1 : List UInt8 := dkwX10_settles_1 ++ []
def dkwX10_settles_0 : List UInt8 := [42, 180, 0, 22, 156, 0, 7, 4, 167, 0, 4, 3, 60, 27, 153, 0, 26, 42, 182, 0, 87, 153, 0, 14]
abbrev dktX10_settles_0 : List UInt8 := dkwX10_settles_0 ++ dktX10_settles_1
theorem dksX10_settles_0 : cX10_settles.data.toList.drop 0 = dktX10_settles_0 := by decide +kernel
theorem dksX10_settles_1 : cX10_settles.data.toList.drop 24 = dktX10_settles_1 := dk_seg dksX10_settles_0 24 rfl rfl
theorem dX10_settles_0 : decode cX10_settles 0 = .ok (.aload_n 0, 1) := dk_42 (dk_at dksX10_settles_0 0 rfl rfl)
theorem dX10_settles_1 : decode cX10_settles 1 = .ok (.getfield 22, 3) := dk_180 0 22 (dk_at dksX10_settles_0 1 rfl rfl)
theorem dX10_settles_4 : decode cX10_settles 4 = .ok (.ifCond .ge 7, 3) := dk_156 0 7 (dk_at dksX10_settles_0 4 rfl rfl)
theorem dX10_settles_7 : decode cX10_settles 7 = .ok (.iconst 1, 1) := dk_4 (dk_at dksX10_settles_0 7 rfl rfl)
theorem dX10_settles_8 : decode cX10_settles 8 = .ok (.goto 4, 3) := dk_167 0 4 (dk_at dksX10_settles_0 8 rfl rfl)
theorem dX10_settles_11 : decode cX10_settles 11 = .ok (.iconst 0, 1) := dk_3 (dk_at dksX10_settles_0 11 rfl rfl)
theorem dX10_settles_12 : decode cX10_settles 12 = .ok (.istore_n 1, 1) := dk_60 (dk_at dksX10_settles_0 12 rfl rfl)
theorem dX10_settles_13 : decode cX10_settles 13 = .ok (.iload_n 1, 1) := dk_27 (dk_at dksX10_settles_0 13 rfl rfl)
theorem dX10_settles_14 : decode cX10_settles 14 = .ok (.ifCond .eq 26, 3) := dk_153 0 26 (dk_at dksX10_settles_0 14 rfl rfl)
theorem dX10_settles_17 : decode cX10_settles 17 = .ok (.aload_n 0, 1) := dk_42 (dk_at dksX10_settles_0 17 rfl rfl)
theorem dX10_settles_18 : decode cX10_settles 18 = .ok (.invokevirtual 87, 3) := dk_182 0 87 (dk_at dksX10_settles_0 18 rfl rfl)
theorem dX10_settles_21 : decode cX10_settles 21 = .ok (.ifCond .eq 14, 3) := dk_153 0 14 (dk_at dksX10_settles_0 21 rfl rfl)
theorem dX10_settles_24 : decode cX10_settles 24 = .ok (.aload_n 0, 1) := dk_42 (dk_at dksX10_settles_1 0 rfl rfl)
theorem dX10_settles_25 : decode cX10_settles 25 = .ok (.getfield 22, 3) := dk_180 0 22 (dk_at dksX10_settles_1 1 rfl rfl)
theorem dX10_settles_28 : decode cX10_settles 28 = .ok (.ifCond .ge 7, 3) := dk_156 0 7 (dk_at dksX10_settles_1 4 rfl rfl)
theorem dX10_settles_31 : decode cX10_settles 31 = .ok (.iconst 1, 1) := dk_4 (dk_at dksX10_settles_1 7 rfl rfl)
theorem dX10_settles_32 : decode cX10_settles 32 = .ok (.goto 4, 3) := dk_167 0 4 (dk_at dksX10_settles_1 8 rfl rfl)
theorem dX10_settles_35 : decode cX10_settles 35 = .ok (.iconst 0, 1) := dk_3 (dk_at dksX10_settles_1 11 rfl rfl)
theorem dX10_settles_36 : decode cX10_settles 36 = .ok (.istore_n 1, 1) := dk_60 (dk_at dksX10_settles_1 12 rfl rfl)
theorem dX10_settles_37 : decode cX10_settles 37 = .ok (.goto (-24), 3) := dk_167 255 232 (dk_at dksX10_settles_1 13 rfl rfl)
theorem dX10_settles_40 : decode cX10_settles 40 = .ok (.return_, 1) := dk_177 (dk_at dksX10_settles_1 16 rfl rfl)
abbrev cX10_passes : ByteArray := prog_19_method_4_code
def yX10_passes : MethodName := ⟨RX10, "passes", "()Z"⟩
def dkwX10_passes_3 : List UInt8 := [3, 172]
abbrev dktX10_passes_3 : List UInt8 := dkwX10_passes_3 ++ []
def dkwX10_passes_2 : List UInt8 := [182, 0, 83, 132, 2, 1, 167, 255, 213, 42, 180, 0, 18, 182, 0, 41, 27, 164, 0, 7, 4, 167, 0, 4]
abbrev dktX10_passes_2 : List UInt8 := dkwX10_passes_2 ++ dktX10_passes_3
def dkwX10_passes_1 : List UInt8 := [42, 180, 0, 22, 156, 0, 28, 42, 180, 0, 26, 180, 0, 63, 28, 182, 0, 45, 192, 0, 66, 42, 28]
abbrev dktX10_passes_1 : List UInt8 := dkwX10_passes_1 ++ dktX10_passes_2
def dkwX10_passes_0 : List UInt8 := [42, 180, 0, 18, 182, 0, 41, 60, 3, 61, 28, 42, 180, 0, 26, 180, 0, 63, 182, 0, 41, 162, 0, 35]
abbrev dktX10_passes_0 : List UInt8 := dkwX10_passes_0 ++ dktX10_passes_1
theorem dksX10_passes_0 : cX10_passes.data.toList.drop 0 = dktX10_passes_0 := by decide +kernel
theorem dksX10_passes_1 : cX10_passes.data.toList.drop 24 = dktX10_passes_1 := dk_seg dksX10_passes_0 24 rfl rfl
theorem dksX10_passes_2 : cX10_passes.data.toList.drop 47 = dktX10_passes_2 := dk_seg dksX10_passes_1 23 rfl rfl
theorem dksX10_passes_3 : cX10_passes.data.toList.drop 71 = dktX10_passes_3 := dk_seg dksX10_passes_2 24 rfl rfl
theorem dX10_passes_0 : decode cX10_passes 0 = .ok (.aload_n 0, 1) := dk_42 (dk_at dksX10_passes_0 0 rfl rfl)
theorem dX10_passes_1 : decode cX10_passes 1 = .ok (.getfield 18, 3) := dk_180 0 18 (dk_at dksX10_passes_0 1 rfl rfl)
theorem dX10_passes_4 : decode cX10_passes 4 = .ok (.invokevirtual 41, 3) := dk_182 0 41 (dk_at dksX10_passes_0 4 rfl rfl)
theorem dX10_passes_7 : decode cX10_passes 7 = .ok (.istore_n 1, 1) := dk_60 (dk_at dksX10_passes_0 7 rfl rfl)
theorem dX10_passes_8 : decode cX10_passes 8 = .ok (.iconst 0, 1) := dk_3 (dk_at dksX10_passes_0 8 rfl rfl)
theorem dX10_passes_9 : decode cX10_passes 9 = .ok (.istore_n 2, 1) := dk_61 (dk_at dksX10_passes_0 9 rfl rfl)
theorem dX10_passes_10 : decode cX10_passes 10 = .ok (.iload_n 2, 1) := dk_28 (dk_at dksX10_passes_0 10 rfl rfl)
theorem dX10_passes_11 : decode cX10_passes 11 = .ok (.aload_n 0, 1) := dk_42 (dk_at dksX10_passes_0 11 rfl rfl)
theorem dX10_passes_12 : decode cX10_passes 12 = .ok (.getfield 26, 3) := dk_180 0 26 (dk_at dksX10_passes_0 12 rfl rfl)
theorem dX10_passes_15 : decode cX10_passes 15 = .ok (.getfield 63, 3) := dk_180 0 63 (dk_at dksX10_passes_0 15 rfl rfl)
theorem dX10_passes_18 : decode cX10_passes 18 = .ok (.invokevirtual 41, 3) := dk_182 0 41 (dk_at dksX10_passes_0 18 rfl rfl)
theorem dX10_passes_21 : decode cX10_passes 21 = .ok (.if_icmp .ge 35, 3) := dk_162 0 35 (dk_at dksX10_passes_0 21 rfl rfl)
theorem dX10_passes_24 : decode cX10_passes 24 = .ok (.aload_n 0, 1) := dk_42 (dk_at dksX10_passes_1 0 rfl rfl)
theorem dX10_passes_25 : decode cX10_passes 25 = .ok (.getfield 22, 3) := dk_180 0 22 (dk_at dksX10_passes_1 1 rfl rfl)
theorem dX10_passes_28 : decode cX10_passes 28 = .ok (.ifCond .ge 28, 3) := dk_156 0 28 (dk_at dksX10_passes_1 4 rfl rfl)
theorem dX10_passes_31 : decode cX10_passes 31 = .ok (.aload_n 0, 1) := dk_42 (dk_at dksX10_passes_1 7 rfl rfl)
theorem dX10_passes_32 : decode cX10_passes 32 = .ok (.getfield 26, 3) := dk_180 0 26 (dk_at dksX10_passes_1 8 rfl rfl)
theorem dX10_passes_35 : decode cX10_passes 35 = .ok (.getfield 63, 3) := dk_180 0 63 (dk_at dksX10_passes_1 11 rfl rfl)
theorem dX10_passes_38 : decode cX10_passes 38 = .ok (.iload_n 2, 1) := dk_28 (dk_at dksX10_passes_1 14 rfl rfl)
theorem dX10_passes_39 : decode cX10_passes 39 = .ok (.invokevirtual 45, 3) := dk_182 0 45 (dk_at dksX10_passes_1 15 rfl rfl)
theorem dX10_passes_42 : decode cX10_passes 42 = .ok (.checkcast 66, 3) := dk_192 0 66 (dk_at dksX10_passes_1 18 rfl rfl)
theorem dX10_passes_45 : decode cX10_passes 45 = .ok (.aload_n 0, 1) := dk_42 (dk_at dksX10_passes_1 21 rfl rfl)
theorem dX10_passes_46 : decode cX10_passes 46 = .ok (.iload_n 2, 1) := dk_28 (dk_at dksX10_passes_1 22 rfl rfl)
theorem dX10_passes_47 : decode cX10_passes 47 = .ok (.invokevirtual 83, 3) := dk_182 0 83 (dk_at dksX10_passes_2 0 rfl rfl)
theorem dX10_passes_50 : decode cX10_passes 50 = .ok (.iinc 2 1, 3) := dk_132 2 1 (dk_at dksX10_passes_2 3 rfl rfl)
theorem dX10_passes_53 : decode cX10_passes 53 = .ok (.goto (-43), 3) := dk_167 255 213 (dk_at dksX10_passes_2 6 rfl rfl)
theorem dX10_passes_56 : decode cX10_passes 56 = .ok (.aload_n 0, 1) := dk_42 (dk_at dksX10_passes_2 9 rfl rfl)
theorem dX10_passes_57 : decode cX10_passes 57 = .ok (.getfield 18, 3) := dk_180 0 18 (dk_at dksX10_passes_2 10 rfl rfl)
theorem dX10_passes_60 : decode cX10_passes 60 = .ok (.invokevirtual 41, 3) := dk_182 0 41 (dk_at dksX10_passes_2 13 rfl rfl)
theorem dX10_passes_63 : decode cX10_passes 63 = .ok (.iload_n 1, 1) := dk_27 (dk_at dksX10_passes_2 16 rfl rfl)
theorem dX10_passes_64 : decode cX10_passes 64 = .ok (.if_icmp .le 7, 3) := dk_164 0 7 (dk_at dksX10_passes_2 17 rfl rfl)
theorem dX10_passes_67 : decode cX10_passes 67 = .ok (.iconst 1, 1) := dk_4 (dk_at dksX10_passes_2 20 rfl rfl)
theorem dX10_passes_68 : decode cX10_passes 68 = .ok (.goto 4, 3) := dk_167 0 4 (dk_at dksX10_passes_2 21 rfl rfl)
theorem dX10_passes_71 : decode cX10_passes 71 = .ok (.iconst 0, 1) := dk_3 (dk_at dksX10_passes_3 0 rfl rfl)
theorem dX10_passes_72 : decode cX10_passes 72 = .ok (.ireturn, 1) := dk_172 (dk_at dksX10_passes_3 1 rfl rfl)
abbrev cX10_leavesOut : ByteArray := prog_19_method_3_code
def yX10_leavesOut : MethodName := ⟨RX10, "leavesOut", "(III)V"⟩
def dkwX10_leavesOut_4 : List UInt8 := [180, 0, 9, 28, 46, 154, 0, 7, 28, 167, 0, 7, 42, 180, 0, 22, 181, 0, 22, 177]
abbrev dktX10_leavesOut_4 : List UInt8 := dkwX10_leavesOut_4 ++ []
def dkwX10_leavesOut_3 : List UInt8 := [183, 0, 76, 182, 0, 79, 87, 42, 180, 0, 9, 28, 92, 46, 21, 4, 2, 130, 126, 79, 42, 42]
abbrev dktX10_leavesOut_3 : List UInt8 := dkwX10_leavesOut_3 ++ dktX10_leavesOut_4
def dkwX10_leavesOut_2 : List UInt8 := [28, 182, 0, 68, 182, 0, 72, 55, 5, 42, 180, 0, 18, 187, 0, 54, 89, 27, 28, 21, 4, 22, 5]
abbrev dktX10_leavesOut_2 : List UInt8 := dkwX10_leavesOut_2 ++ dktX10_leavesOut_3
def dkwX10_leavesOut_1 : List UInt8 := [16, 100, 161, 0, 7, 9, 167, 0, 25, 42, 42, 180, 0, 26, 180, 0, 63, 27, 182, 0, 45, 192, 0, 66]
abbrev dktX10_leavesOut_1 : List UInt8 := dkwX10_leavesOut_1 ++ dktX10_leavesOut_2
def dkwX10_leavesOut_0 : List UInt8 := [29, 42, 180, 0, 9, 28, 46, 126, 54, 4, 21, 4, 153, 0, 10, 42, 180, 0, 22, 155, 0, 4, 177, 27]
abbrev dktX10_leavesOut_0 : List UInt8 := dkwX10_leavesOut_0 ++ dktX10_leavesOut_1
theorem dksX10_leavesOut_0 : cX10_leavesOut.data.toList.drop 0 = dktX10_leavesOut_0 := by decide +kernel
theorem dksX10_leavesOut_1 : cX10_leavesOut.data.toList.drop 24 = dktX10_leavesOut_1 := dk_seg dksX10_leavesOut_0 24 rfl rfl
theorem dksX10_leavesOut_2 : cX10_leavesOut.data.toList.drop 48 = dktX10_leavesOut_2 := dk_seg dksX10_leavesOut_1 24 rfl rfl
theorem dksX10_leavesOut_3 : cX10_leavesOut.data.toList.drop 71 = dktX10_leavesOut_3 := dk_seg dksX10_leavesOut_2 23 rfl rfl
theorem dksX10_leavesOut_4 : cX10_leavesOut.data.toList.drop 93 = dktX10_leavesOut_4 := dk_seg dksX10_leavesOut_3 22 rfl rfl
theorem dX10_leavesOut_0 : decode cX10_leavesOut 0 = .ok (.iload_n 3, 1) := dk_29 (dk_at dksX10_leavesOut_0 0 rfl rfl)
theorem dX10_leavesOut_1 : decode cX10_leavesOut 1 = .ok (.aload_n 0, 1) := dk_42 (dk_at dksX10_leavesOut_0 1 rfl rfl)
theorem dX10_leavesOut_2 : decode cX10_leavesOut 2 = .ok (.getfield 9, 3) := dk_180 0 9 (dk_at dksX10_leavesOut_0 2 rfl rfl)
theorem dX10_leavesOut_5 : decode cX10_leavesOut 5 = .ok (.iload_n 2, 1) := dk_28 (dk_at dksX10_leavesOut_0 5 rfl rfl)
theorem dX10_leavesOut_6 : decode cX10_leavesOut 6 = .ok (.iaload, 1) := dk_46 (dk_at dksX10_leavesOut_0 6 rfl rfl)
theorem dX10_leavesOut_7 : decode cX10_leavesOut 7 = .ok (.iand, 1) := dk_126 (dk_at dksX10_leavesOut_0 7 rfl rfl)
theorem dX10_leavesOut_8 : decode cX10_leavesOut 8 = .ok (.istore 4, 2) := dk_54 4 (dk_at dksX10_leavesOut_0 8 rfl rfl)
theorem dX10_leavesOut_10 : decode cX10_leavesOut 10 = .ok (.iload 4, 2) := dk_21 4 (dk_at dksX10_leavesOut_0 10 rfl rfl)
theorem dX10_leavesOut_12 : decode cX10_leavesOut 12 = .ok (.ifCond .eq 10, 3) := dk_153 0 10 (dk_at dksX10_leavesOut_0 12 rfl rfl)
theorem dX10_leavesOut_15 : decode cX10_leavesOut 15 = .ok (.aload_n 0, 1) := dk_42 (dk_at dksX10_leavesOut_0 15 rfl rfl)
theorem dX10_leavesOut_16 : decode cX10_leavesOut 16 = .ok (.getfield 22, 3) := dk_180 0 22 (dk_at dksX10_leavesOut_0 16 rfl rfl)
theorem dX10_leavesOut_19 : decode cX10_leavesOut 19 = .ok (.ifCond .lt 4, 3) := dk_155 0 4 (dk_at dksX10_leavesOut_0 19 rfl rfl)
theorem dX10_leavesOut_22 : decode cX10_leavesOut 22 = .ok (.return_, 1) := dk_177 (dk_at dksX10_leavesOut_0 22 rfl rfl)
theorem dX10_leavesOut_23 : decode cX10_leavesOut 23 = .ok (.iload_n 1, 1) := dk_27 (dk_at dksX10_leavesOut_0 23 rfl rfl)
theorem dX10_leavesOut_24 : decode cX10_leavesOut 24 = .ok (.bipush 100, 2) := dk_16 100 (dk_at dksX10_leavesOut_1 0 rfl rfl)
theorem dX10_leavesOut_26 : decode cX10_leavesOut 26 = .ok (.if_icmp .lt 7, 3) := dk_161 0 7 (dk_at dksX10_leavesOut_1 2 rfl rfl)
theorem dX10_leavesOut_29 : decode cX10_leavesOut 29 = .ok (.lconst 0, 1) := dk_9 (dk_at dksX10_leavesOut_1 5 rfl rfl)
theorem dX10_leavesOut_30 : decode cX10_leavesOut 30 = .ok (.goto 25, 3) := dk_167 0 25 (dk_at dksX10_leavesOut_1 6 rfl rfl)
theorem dX10_leavesOut_33 : decode cX10_leavesOut 33 = .ok (.aload_n 0, 1) := dk_42 (dk_at dksX10_leavesOut_1 9 rfl rfl)
theorem dX10_leavesOut_34 : decode cX10_leavesOut 34 = .ok (.aload_n 0, 1) := dk_42 (dk_at dksX10_leavesOut_1 10 rfl rfl)
theorem dX10_leavesOut_35 : decode cX10_leavesOut 35 = .ok (.getfield 26, 3) := dk_180 0 26 (dk_at dksX10_leavesOut_1 11 rfl rfl)
theorem dX10_leavesOut_38 : decode cX10_leavesOut 38 = .ok (.getfield 63, 3) := dk_180 0 63 (dk_at dksX10_leavesOut_1 14 rfl rfl)
theorem dX10_leavesOut_41 : decode cX10_leavesOut 41 = .ok (.iload_n 1, 1) := dk_27 (dk_at dksX10_leavesOut_1 17 rfl rfl)
theorem dX10_leavesOut_42 : decode cX10_leavesOut 42 = .ok (.invokevirtual 45, 3) := dk_182 0 45 (dk_at dksX10_leavesOut_1 18 rfl rfl)
theorem dX10_leavesOut_45 : decode cX10_leavesOut 45 = .ok (.checkcast 66, 3) := dk_192 0 66 (dk_at dksX10_leavesOut_1 21 rfl rfl)
theorem dX10_leavesOut_48 : decode cX10_leavesOut 48 = .ok (.iload_n 2, 1) := dk_28 (dk_at dksX10_leavesOut_2 0 rfl rfl)
theorem dX10_leavesOut_49 : decode cX10_leavesOut 49 = .ok (.invokevirtual 68, 3) := dk_182 0 68 (dk_at dksX10_leavesOut_2 1 rfl rfl)
theorem dX10_leavesOut_52 : decode cX10_leavesOut 52 = .ok (.invokevirtual 72, 3) := dk_182 0 72 (dk_at dksX10_leavesOut_2 4 rfl rfl)
theorem dX10_leavesOut_55 : decode cX10_leavesOut 55 = .ok (.lstore 5, 2) := dk_55 5 (dk_at dksX10_leavesOut_2 7 rfl rfl)
theorem dX10_leavesOut_57 : decode cX10_leavesOut 57 = .ok (.aload_n 0, 1) := dk_42 (dk_at dksX10_leavesOut_2 9 rfl rfl)
theorem dX10_leavesOut_58 : decode cX10_leavesOut 58 = .ok (.getfield 18, 3) := dk_180 0 18 (dk_at dksX10_leavesOut_2 10 rfl rfl)
theorem dX10_leavesOut_61 : decode cX10_leavesOut 61 = .ok (.new 54, 3) := dk_187 0 54 (dk_at dksX10_leavesOut_2 13 rfl rfl)
theorem dX10_leavesOut_64 : decode cX10_leavesOut 64 = .ok (.dup, 1) := dk_89 (dk_at dksX10_leavesOut_2 16 rfl rfl)
theorem dX10_leavesOut_65 : decode cX10_leavesOut 65 = .ok (.iload_n 1, 1) := dk_27 (dk_at dksX10_leavesOut_2 17 rfl rfl)
theorem dX10_leavesOut_66 : decode cX10_leavesOut 66 = .ok (.iload_n 2, 1) := dk_28 (dk_at dksX10_leavesOut_2 18 rfl rfl)
theorem dX10_leavesOut_67 : decode cX10_leavesOut 67 = .ok (.iload 4, 2) := dk_21 4 (dk_at dksX10_leavesOut_2 19 rfl rfl)
theorem dX10_leavesOut_69 : decode cX10_leavesOut 69 = .ok (.lload 5, 2) := dk_22 5 (dk_at dksX10_leavesOut_2 21 rfl rfl)
theorem dX10_leavesOut_71 : decode cX10_leavesOut 71 = .ok (.invokespecial 76, 3) := dk_183 0 76 (dk_at dksX10_leavesOut_3 0 rfl rfl)
theorem dX10_leavesOut_74 : decode cX10_leavesOut 74 = .ok (.invokevirtual 79, 3) := dk_182 0 79 (dk_at dksX10_leavesOut_3 3 rfl rfl)
theorem dX10_leavesOut_77 : decode cX10_leavesOut 77 = .ok (.pop, 1) := dk_87 (dk_at dksX10_leavesOut_3 6 rfl rfl)
theorem dX10_leavesOut_78 : decode cX10_leavesOut 78 = .ok (.aload_n 0, 1) := dk_42 (dk_at dksX10_leavesOut_3 7 rfl rfl)
theorem dX10_leavesOut_79 : decode cX10_leavesOut 79 = .ok (.getfield 9, 3) := dk_180 0 9 (dk_at dksX10_leavesOut_3 8 rfl rfl)
theorem dX10_leavesOut_82 : decode cX10_leavesOut 82 = .ok (.iload_n 2, 1) := dk_28 (dk_at dksX10_leavesOut_3 11 rfl rfl)
theorem dX10_leavesOut_83 : decode cX10_leavesOut 83 = .ok (.dup2, 1) := dk_92 (dk_at dksX10_leavesOut_3 12 rfl rfl)
theorem dX10_leavesOut_84 : decode cX10_leavesOut 84 = .ok (.iaload, 1) := dk_46 (dk_at dksX10_leavesOut_3 13 rfl rfl)
theorem dX10_leavesOut_85 : decode cX10_leavesOut 85 = .ok (.iload 4, 2) := dk_21 4 (dk_at dksX10_leavesOut_3 14 rfl rfl)
theorem dX10_leavesOut_87 : decode cX10_leavesOut 87 = .ok (.iconst (-1), 1) := dk_2 (dk_at dksX10_leavesOut_3 16 rfl rfl)
theorem dX10_leavesOut_88 : decode cX10_leavesOut 88 = .ok (.ixor, 1) := dk_130 (dk_at dksX10_leavesOut_3 17 rfl rfl)
theorem dX10_leavesOut_89 : decode cX10_leavesOut 89 = .ok (.iand, 1) := dk_126 (dk_at dksX10_leavesOut_3 18 rfl rfl)
theorem dX10_leavesOut_90 : decode cX10_leavesOut 90 = .ok (.iastore, 1) := dk_79 (dk_at dksX10_leavesOut_3 19 rfl rfl)
theorem dX10_leavesOut_91 : decode cX10_leavesOut 91 = .ok (.aload_n 0, 1) := dk_42 (dk_at dksX10_leavesOut_3 20 rfl rfl)
theorem dX10_leavesOut_92 : decode cX10_leavesOut 92 = .ok (.aload_n 0, 1) := dk_42 (dk_at dksX10_leavesOut_3 21 rfl rfl)
theorem dX10_leavesOut_93 : decode cX10_leavesOut 93 = .ok (.getfield 9, 3) := dk_180 0 9 (dk_at dksX10_leavesOut_4 0 rfl rfl)
theorem dX10_leavesOut_96 : decode cX10_leavesOut 96 = .ok (.iload_n 2, 1) := dk_28 (dk_at dksX10_leavesOut_4 3 rfl rfl)
theorem dX10_leavesOut_97 : decode cX10_leavesOut 97 = .ok (.iaload, 1) := dk_46 (dk_at dksX10_leavesOut_4 4 rfl rfl)
theorem dX10_leavesOut_98 : decode cX10_leavesOut 98 = .ok (.ifCond .ne 7, 3) := dk_154 0 7 (dk_at dksX10_leavesOut_4 5 rfl rfl)
theorem dX10_leavesOut_101 : decode cX10_leavesOut 101 = .ok (.iload_n 2, 1) := dk_28 (dk_at dksX10_leavesOut_4 8 rfl rfl)
theorem dX10_leavesOut_102 : decode cX10_leavesOut 102 = .ok (.goto 7, 3) := dk_167 0 7 (dk_at dksX10_leavesOut_4 9 rfl rfl)
theorem dX10_leavesOut_105 : decode cX10_leavesOut 105 = .ok (.aload_n 0, 1) := dk_42 (dk_at dksX10_leavesOut_4 12 rfl rfl)
theorem dX10_leavesOut_106 : decode cX10_leavesOut 106 = .ok (.getfield 22, 3) := dk_180 0 22 (dk_at dksX10_leavesOut_4 13 rfl rfl)
theorem dX10_leavesOut_109 : decode cX10_leavesOut 109 = .ok (.putfield 22, 3) := dk_181 0 22 (dk_at dksX10_leavesOut_4 16 rfl rfl)
theorem dX10_leavesOut_112 : decode cX10_leavesOut 112 = .ok (.return_, 1) := dk_177 (dk_at dksX10_leavesOut_4 19 rfl rfl)
abbrev cX10_stepsFor : ByteArray := prog_19_method_2_code
def yX10_stepsFor : MethodName := ⟨RX10, "stepsFor", "(I)J"⟩
def dkwX10_stepsFor_2 : List UInt8 := [9, 129, 65, 132, 4, 1, 167, 255, 208, 32, 173]
abbrev dktX10_stepsFor_2 : List UInt8 := dkwX10_stepsFor_2 ++ []
def dkwX10_stepsFor_1 : List UInt8 := [21, 4, 182, 0, 45, 192, 0, 54, 180, 0, 56, 184, 0, 59, 153, 0, 10, 10, 21, 4, 121, 167, 0, 4]
abbrev dktX10_stepsFor_1 : List UInt8 := dkwX10_stepsFor_1 ++ dktX10_stepsFor_2
def dkwX10_stepsFor_0 : List UInt8 := [9, 65, 3, 54, 4, 21, 4, 42, 180, 0, 18, 182, 0, 41, 162, 0, 42, 32, 27, 42, 180, 0, 18]
abbrev dktX10_stepsFor_0 : List UInt8 := dkwX10_stepsFor_0 ++ dktX10_stepsFor_1
theorem dksX10_stepsFor_0 : cX10_stepsFor.data.toList.drop 0 = dktX10_stepsFor_0 := by decide +kernel
theorem dksX10_stepsFor_1 : cX10_stepsFor.data.toList.drop 23 = dktX10_stepsFor_1 := dk_seg dksX10_stepsFor_0 23 rfl rfl
theorem dksX10_stepsFor_2 : cX10_stepsFor.data.toList.drop 47 = dktX10_stepsFor_2 := dk_seg dksX10_stepsFor_1 24 rfl rfl
theorem dX10_stepsFor_0 : decode cX10_stepsFor 0 = .ok (.lconst 0, 1) := dk_9 (dk_at dksX10_stepsFor_0 0 rfl rfl)
theorem dX10_stepsFor_1 : decode cX10_stepsFor 1 = .ok (.lstore_n 2, 1) := dk_65 (dk_at dksX10_stepsFor_0 1 rfl rfl)
theorem dX10_stepsFor_2 : decode cX10_stepsFor 2 = .ok (.iconst 0, 1) := dk_3 (dk_at dksX10_stepsFor_0 2 rfl rfl)
theorem dX10_stepsFor_3 : decode cX10_stepsFor 3 = .ok (.istore 4, 2) := dk_54 4 (dk_at dksX10_stepsFor_0 3 rfl rfl)
theorem dX10_stepsFor_5 : decode cX10_stepsFor 5 = .ok (.iload 4, 2) := dk_21 4 (dk_at dksX10_stepsFor_0 5 rfl rfl)
theorem dX10_stepsFor_7 : decode cX10_stepsFor 7 = .ok (.aload_n 0, 1) := dk_42 (dk_at dksX10_stepsFor_0 7 rfl rfl)
theorem dX10_stepsFor_8 : decode cX10_stepsFor 8 = .ok (.getfield 18, 3) := dk_180 0 18 (dk_at dksX10_stepsFor_0 8 rfl rfl)
theorem dX10_stepsFor_11 : decode cX10_stepsFor 11 = .ok (.invokevirtual 41, 3) := dk_182 0 41 (dk_at dksX10_stepsFor_0 11 rfl rfl)
theorem dX10_stepsFor_14 : decode cX10_stepsFor 14 = .ok (.if_icmp .ge 42, 3) := dk_162 0 42 (dk_at dksX10_stepsFor_0 14 rfl rfl)
theorem dX10_stepsFor_17 : decode cX10_stepsFor 17 = .ok (.lload_n 2, 1) := dk_32 (dk_at dksX10_stepsFor_0 17 rfl rfl)
theorem dX10_stepsFor_18 : decode cX10_stepsFor 18 = .ok (.iload_n 1, 1) := dk_27 (dk_at dksX10_stepsFor_0 18 rfl rfl)
theorem dX10_stepsFor_19 : decode cX10_stepsFor 19 = .ok (.aload_n 0, 1) := dk_42 (dk_at dksX10_stepsFor_0 19 rfl rfl)
theorem dX10_stepsFor_20 : decode cX10_stepsFor 20 = .ok (.getfield 18, 3) := dk_180 0 18 (dk_at dksX10_stepsFor_0 20 rfl rfl)
theorem dX10_stepsFor_23 : decode cX10_stepsFor 23 = .ok (.iload 4, 2) := dk_21 4 (dk_at dksX10_stepsFor_1 0 rfl rfl)
theorem dX10_stepsFor_25 : decode cX10_stepsFor 25 = .ok (.invokevirtual 45, 3) := dk_182 0 45 (dk_at dksX10_stepsFor_1 2 rfl rfl)
theorem dX10_stepsFor_28 : decode cX10_stepsFor 28 = .ok (.checkcast 54, 3) := dk_192 0 54 (dk_at dksX10_stepsFor_1 5 rfl rfl)
theorem dX10_stepsFor_31 : decode cX10_stepsFor 31 = .ok (.getfield 56, 3) := dk_180 0 56 (dk_at dksX10_stepsFor_1 8 rfl rfl)
theorem dX10_stepsFor_34 : decode cX10_stepsFor 34 = .ok (.invokestatic 59, 3) := dk_184 0 59 (dk_at dksX10_stepsFor_1 11 rfl rfl)
theorem dX10_stepsFor_37 : decode cX10_stepsFor 37 = .ok (.ifCond .eq 10, 3) := dk_153 0 10 (dk_at dksX10_stepsFor_1 14 rfl rfl)
theorem dX10_stepsFor_40 : decode cX10_stepsFor 40 = .ok (.lconst 1, 1) := dk_10 (dk_at dksX10_stepsFor_1 17 rfl rfl)
theorem dX10_stepsFor_41 : decode cX10_stepsFor 41 = .ok (.iload 4, 2) := dk_21 4 (dk_at dksX10_stepsFor_1 18 rfl rfl)
theorem dX10_stepsFor_43 : decode cX10_stepsFor 43 = .ok (.lshl, 1) := dk_121 (dk_at dksX10_stepsFor_1 20 rfl rfl)
theorem dX10_stepsFor_44 : decode cX10_stepsFor 44 = .ok (.goto 4, 3) := dk_167 0 4 (dk_at dksX10_stepsFor_1 21 rfl rfl)
theorem dX10_stepsFor_47 : decode cX10_stepsFor 47 = .ok (.lconst 0, 1) := dk_9 (dk_at dksX10_stepsFor_2 0 rfl rfl)
theorem dX10_stepsFor_48 : decode cX10_stepsFor 48 = .ok (.lor, 1) := dk_129 (dk_at dksX10_stepsFor_2 1 rfl rfl)
theorem dX10_stepsFor_49 : decode cX10_stepsFor 49 = .ok (.lstore_n 2, 1) := dk_65 (dk_at dksX10_stepsFor_2 2 rfl rfl)
theorem dX10_stepsFor_50 : decode cX10_stepsFor 50 = .ok (.iinc 4 1, 3) := dk_132 4 1 (dk_at dksX10_stepsFor_2 3 rfl rfl)
theorem dX10_stepsFor_53 : decode cX10_stepsFor 53 = .ok (.goto (-48), 3) := dk_167 255 208 (dk_at dksX10_stepsFor_2 6 rfl rfl)
theorem dX10_stepsFor_56 : decode cX10_stepsFor 56 = .ok (.lload_n 2, 1) := dk_32 (dk_at dksX10_stepsFor_2 9 rfl rfl)
theorem dX10_stepsFor_57 : decode cX10_stepsFor 57 = .ok (.lreturn, 1) := dk_173 (dk_at dksX10_stepsFor_2 10 rfl rfl)
abbrev cX10_proof : ByteArray := prog_19_method_8_code
def yX10_proof : MethodName := ⟨RX10, "proof", "()J"⟩
def dkwX10_proof_1 : List UInt8 := [167, 0, 4, 9, 173]
abbrev dktX10_proof_1 : List UInt8 := dkwX10_proof_1 ++ []
def dkwX10_proof_0 : List UInt8 := [42, 182, 0, 107, 153, 0, 21, 42, 42, 4, 42, 180, 0, 22, 120, 182, 0, 72, 9, 182, 0, 110]
abbrev dktX10_proof_0 : List UInt8 := dkwX10_proof_0 ++ dktX10_proof_1
theorem dksX10_proof_0 : cX10_proof.data.toList.drop 0 = dktX10_proof_0 := by decide +kernel
theorem dksX10_proof_1 : cX10_proof.data.toList.drop 22 = dktX10_proof_1 := dk_seg dksX10_proof_0 22 rfl rfl
theorem dX10_proof_0 : decode cX10_proof 0 = .ok (.aload_n 0, 1) := dk_42 (dk_at dksX10_proof_0 0 rfl rfl)
theorem dX10_proof_1 : decode cX10_proof 1 = .ok (.invokevirtual 107, 3) := dk_182 0 107 (dk_at dksX10_proof_0 1 rfl rfl)
theorem dX10_proof_4 : decode cX10_proof 4 = .ok (.ifCond .eq 21, 3) := dk_153 0 21 (dk_at dksX10_proof_0 4 rfl rfl)
theorem dX10_proof_7 : decode cX10_proof 7 = .ok (.aload_n 0, 1) := dk_42 (dk_at dksX10_proof_0 7 rfl rfl)
theorem dX10_proof_8 : decode cX10_proof 8 = .ok (.aload_n 0, 1) := dk_42 (dk_at dksX10_proof_0 8 rfl rfl)
theorem dX10_proof_9 : decode cX10_proof 9 = .ok (.iconst 1, 1) := dk_4 (dk_at dksX10_proof_0 9 rfl rfl)
theorem dX10_proof_10 : decode cX10_proof 10 = .ok (.aload_n 0, 1) := dk_42 (dk_at dksX10_proof_0 10 rfl rfl)
theorem dX10_proof_11 : decode cX10_proof 11 = .ok (.getfield 22, 3) := dk_180 0 22 (dk_at dksX10_proof_0 11 rfl rfl)
theorem dX10_proof_14 : decode cX10_proof 14 = .ok (.ishl, 1) := dk_120 (dk_at dksX10_proof_0 14 rfl rfl)
theorem dX10_proof_15 : decode cX10_proof 15 = .ok (.invokevirtual 72, 3) := dk_182 0 72 (dk_at dksX10_proof_0 15 rfl rfl)
theorem dX10_proof_18 : decode cX10_proof 18 = .ok (.lconst 0, 1) := dk_9 (dk_at dksX10_proof_0 18 rfl rfl)
theorem dX10_proof_19 : decode cX10_proof 19 = .ok (.invokevirtual 110, 3) := dk_182 0 110 (dk_at dksX10_proof_0 19 rfl rfl)
theorem dX10_proof_22 : decode cX10_proof 22 = .ok (.goto 4, 3) := dk_167 0 4 (dk_at dksX10_proof_1 0 rfl rfl)
theorem dX10_proof_25 : decode cX10_proof 25 = .ok (.lconst 0, 1) := dk_9 (dk_at dksX10_proof_1 3 rfl rfl)
theorem dX10_proof_26 : decode cX10_proof 26 = .ok (.lreturn, 1) := dk_173 (dk_at dksX10_proof_1 4 rfl rfl)
abbrev cX10_isConflict : ByteArray := prog_19_method_7_code
def yX10_isConflict : MethodName := ⟨RX10, "isConflict", "()Z"⟩
def dkwX10_isConflict_0 : List UInt8 := [42, 180, 0, 22, 155, 0, 7, 4, 167, 0, 4, 3, 172]
abbrev dktX10_isConflict_0 : List UInt8 := dkwX10_isConflict_0 ++ []
theorem dksX10_isConflict_0 : cX10_isConflict.data.toList.drop 0 = dktX10_isConflict_0 := by decide +kernel
theorem dX10_isConflict_0 : decode cX10_isConflict 0 = .ok (.aload_n 0, 1) := dk_42 (dk_at dksX10_isConflict_0 0 rfl rfl)
theorem dX10_isConflict_1 : decode cX10_isConflict 1 = .ok (.getfield 22, 3) := dk_180 0 22 (dk_at dksX10_isConflict_0 1 rfl rfl)
theorem dX10_isConflict_4 : decode cX10_isConflict 4 = .ok (.ifCond .lt 7, 3) := dk_155 0 7 (dk_at dksX10_isConflict_0 4 rfl rfl)
theorem dX10_isConflict_7 : decode cX10_isConflict 7 = .ok (.iconst 1, 1) := dk_4 (dk_at dksX10_isConflict_0 7 rfl rfl)
theorem dX10_isConflict_8 : decode cX10_isConflict 8 = .ok (.goto 4, 3) := dk_167 0 4 (dk_at dksX10_isConflict_0 8 rfl rfl)
theorem dX10_isConflict_11 : decode cX10_isConflict 11 = .ok (.iconst 0, 1) := dk_3 (dk_at dksX10_isConflict_0 11 rfl rfl)
theorem dX10_isConflict_12 : decode cX10_isConflict 12 = .ok (.ireturn, 1) := dk_172 (dk_at dksX10_isConflict_0 12 rfl rfl)
abbrev cX10_gathers : ByteArray := prog_19_method_9_code
def yX10_gathers : MethodName := ⟨RX10, "gathers", "(JJ)J"⟩
def dkwX10_gathers_2 : List UInt8 := [22, 6, 182, 0, 110, 173]
abbrev dktX10_gathers_2 : List UInt8 := dkwX10_gathers_2 ++ []
def dkwX10_gathers_1 : List UInt8 := [42, 180, 0, 18, 21, 5, 182, 0, 45, 192, 0, 54, 180, 0, 120, 129, 22, 6, 20, 0, 124, 131, 127]
abbrev dktX10_gathers_1 : List UInt8 := dkwX10_gathers_1 ++ dktX10_gathers_2
def dkwX10_gathers_0 : List UInt8 := [31, 9, 148, 154, 0, 5, 33, 173, 31, 184, 0, 114, 54, 5, 33, 10, 21, 5, 121, 129, 55, 6, 42, 31]
abbrev dktX10_gathers_0 : List UInt8 := dkwX10_gathers_0 ++ dktX10_gathers_1
theorem dksX10_gathers_0 : cX10_gathers.data.toList.drop 0 = dktX10_gathers_0 := by decide +kernel
theorem dksX10_gathers_1 : cX10_gathers.data.toList.drop 24 = dktX10_gathers_1 := dk_seg dksX10_gathers_0 24 rfl rfl
theorem dksX10_gathers_2 : cX10_gathers.data.toList.drop 47 = dktX10_gathers_2 := dk_seg dksX10_gathers_1 23 rfl rfl
theorem dX10_gathers_0 : decode cX10_gathers 0 = .ok (.lload_n 1, 1) := dk_31 (dk_at dksX10_gathers_0 0 rfl rfl)
theorem dX10_gathers_1 : decode cX10_gathers 1 = .ok (.lconst 0, 1) := dk_9 (dk_at dksX10_gathers_0 1 rfl rfl)
theorem dX10_gathers_2 : decode cX10_gathers 2 = .ok (.lcmp, 1) := dk_148 (dk_at dksX10_gathers_0 2 rfl rfl)
theorem dX10_gathers_3 : decode cX10_gathers 3 = .ok (.ifCond .ne 5, 3) := dk_154 0 5 (dk_at dksX10_gathers_0 3 rfl rfl)
theorem dX10_gathers_6 : decode cX10_gathers 6 = .ok (.lload_n 3, 1) := dk_33 (dk_at dksX10_gathers_0 6 rfl rfl)
theorem dX10_gathers_7 : decode cX10_gathers 7 = .ok (.lreturn, 1) := dk_173 (dk_at dksX10_gathers_0 7 rfl rfl)
theorem dX10_gathers_8 : decode cX10_gathers 8 = .ok (.lload_n 1, 1) := dk_31 (dk_at dksX10_gathers_0 8 rfl rfl)
theorem dX10_gathers_9 : decode cX10_gathers 9 = .ok (.invokestatic 114, 3) := dk_184 0 114 (dk_at dksX10_gathers_0 9 rfl rfl)
theorem dX10_gathers_12 : decode cX10_gathers 12 = .ok (.istore 5, 2) := dk_54 5 (dk_at dksX10_gathers_0 12 rfl rfl)
theorem dX10_gathers_14 : decode cX10_gathers 14 = .ok (.lload_n 3, 1) := dk_33 (dk_at dksX10_gathers_0 14 rfl rfl)
theorem dX10_gathers_15 : decode cX10_gathers 15 = .ok (.lconst 1, 1) := dk_10 (dk_at dksX10_gathers_0 15 rfl rfl)
theorem dX10_gathers_16 : decode cX10_gathers 16 = .ok (.iload 5, 2) := dk_21 5 (dk_at dksX10_gathers_0 16 rfl rfl)
theorem dX10_gathers_18 : decode cX10_gathers 18 = .ok (.lshl, 1) := dk_121 (dk_at dksX10_gathers_0 18 rfl rfl)
theorem dX10_gathers_19 : decode cX10_gathers 19 = .ok (.lor, 1) := dk_129 (dk_at dksX10_gathers_0 19 rfl rfl)
theorem dX10_gathers_20 : decode cX10_gathers 20 = .ok (.lstore 6, 2) := dk_55 6 (dk_at dksX10_gathers_0 20 rfl rfl)
theorem dX10_gathers_22 : decode cX10_gathers 22 = .ok (.aload_n 0, 1) := dk_42 (dk_at dksX10_gathers_0 22 rfl rfl)
theorem dX10_gathers_23 : decode cX10_gathers 23 = .ok (.lload_n 1, 1) := dk_31 (dk_at dksX10_gathers_0 23 rfl rfl)
theorem dX10_gathers_24 : decode cX10_gathers 24 = .ok (.aload_n 0, 1) := dk_42 (dk_at dksX10_gathers_1 0 rfl rfl)
theorem dX10_gathers_25 : decode cX10_gathers 25 = .ok (.getfield 18, 3) := dk_180 0 18 (dk_at dksX10_gathers_1 1 rfl rfl)
theorem dX10_gathers_28 : decode cX10_gathers 28 = .ok (.iload 5, 2) := dk_21 5 (dk_at dksX10_gathers_1 4 rfl rfl)
theorem dX10_gathers_30 : decode cX10_gathers 30 = .ok (.invokevirtual 45, 3) := dk_182 0 45 (dk_at dksX10_gathers_1 6 rfl rfl)
theorem dX10_gathers_33 : decode cX10_gathers 33 = .ok (.checkcast 54, 3) := dk_192 0 54 (dk_at dksX10_gathers_1 9 rfl rfl)
theorem dX10_gathers_36 : decode cX10_gathers 36 = .ok (.getfield 120, 3) := dk_180 0 120 (dk_at dksX10_gathers_1 12 rfl rfl)
theorem dX10_gathers_39 : decode cX10_gathers 39 = .ok (.lor, 1) := dk_129 (dk_at dksX10_gathers_1 15 rfl rfl)
theorem dX10_gathers_40 : decode cX10_gathers 40 = .ok (.lload 6, 2) := dk_22 6 (dk_at dksX10_gathers_1 16 rfl rfl)
theorem dX10_gathers_42 : decode cX10_gathers 42 = .ok (.ldc2_w 124, 3) := dk_20 0 124 (dk_at dksX10_gathers_1 18 rfl rfl)
theorem dX10_gathers_45 : decode cX10_gathers 45 = .ok (.lxor, 1) := dk_131 (dk_at dksX10_gathers_1 21 rfl rfl)
theorem dX10_gathers_46 : decode cX10_gathers 46 = .ok (.land, 1) := dk_127 (dk_at dksX10_gathers_1 22 rfl rfl)
theorem dX10_gathers_47 : decode cX10_gathers 47 = .ok (.lload 6, 2) := dk_22 6 (dk_at dksX10_gathers_2 0 rfl rfl)
theorem dX10_gathers_49 : decode cX10_gathers 49 = .ok (.invokevirtual 110, 3) := dk_182 0 110 (dk_at dksX10_gathers_2 2 rfl rfl)
theorem dX10_gathers_52 : decode cX10_gathers 52 = .ok (.lreturn, 1) := dk_173 (dk_at dksX10_gathers_2 5 rfl rfl)
abbrev cX10_isProved : ByteArray := prog_19_method_11_code
def yX10_isProved : MethodName := ⟨RX10, "isProved", "()Z"⟩
def dkwX10_isProved_6 : List UInt8 := [132, 4, 1, 167, 255, 179, 43, 42, 180, 0, 22, 46, 154, 0, 7, 4, 167, 0, 4, 3, 172]
abbrev dktX10_isProved_6 : List UInt8 := dkwX10_isProved_6 ++ []
def dkwX10_isProved_5 : List UInt8 := [153, 0, 5, 3, 172, 43, 25, 5, 180, 0, 56, 92, 46, 25, 5, 180, 0, 137, 2, 130, 126, 79]
abbrev dktX10_isProved_5 : List UInt8 := dkwX10_isProved_5 ++ dktX10_isProved_6
def dkwX10_isProved_4 : List UInt8 := [10, 127, 10, 148, 154, 0, 40, 25, 5, 180, 0, 137, 42, 25, 5, 43, 182, 0, 140, 2, 130, 126]
abbrev dktX10_isProved_4 : List UInt8 := dkwX10_isProved_4 ++ dktX10_isProved_5
def dkwX10_isProved_3 : List UInt8 := [182, 0, 41, 162, 0, 71, 42, 180, 0, 18, 21, 4, 182, 0, 45, 192, 0, 54, 58, 5, 32, 21, 4, 123]
abbrev dktX10_isProved_3 : List UInt8 := dkwX10_isProved_3 ++ dktX10_isProved_4
def dkwX10_isProved_2 : List UInt8 := [182, 0, 51, 79, 132, 2, 1, 167, 255, 219, 42, 182, 0, 133, 65, 3, 54, 4, 21, 4, 42, 180, 0, 18]
abbrev dktX10_isProved_2 : List UInt8 := dkwX10_isProved_2 ++ dktX10_isProved_3
def dkwX10_isProved_1 : List UInt8 := [182, 0, 41, 162, 0, 29, 43, 28, 42, 180, 0, 26, 180, 0, 38, 28, 182, 0, 45, 192, 0, 49]
abbrev dktX10_isProved_1 : List UInt8 := dkwX10_isProved_1 ++ dktX10_isProved_2
def dkwX10_isProved_0 : List UInt8 := [42, 182, 0, 107, 154, 0, 5, 3, 172, 16, 6, 188, 10, 76, 3, 61, 28, 42, 180, 0, 26, 180, 0, 38]
abbrev dktX10_isProved_0 : List UInt8 := dkwX10_isProved_0 ++ dktX10_isProved_1
theorem dksX10_isProved_0 : cX10_isProved.data.toList.drop 0 = dktX10_isProved_0 := by decide +kernel
theorem dksX10_isProved_1 : cX10_isProved.data.toList.drop 24 = dktX10_isProved_1 := dk_seg dksX10_isProved_0 24 rfl rfl
theorem dksX10_isProved_2 : cX10_isProved.data.toList.drop 46 = dktX10_isProved_2 := dk_seg dksX10_isProved_1 22 rfl rfl
theorem dksX10_isProved_3 : cX10_isProved.data.toList.drop 70 = dktX10_isProved_3 := dk_seg dksX10_isProved_2 24 rfl rfl
theorem dksX10_isProved_4 : cX10_isProved.data.toList.drop 94 = dktX10_isProved_4 := dk_seg dksX10_isProved_3 24 rfl rfl
theorem dksX10_isProved_5 : cX10_isProved.data.toList.drop 116 = dktX10_isProved_5 := dk_seg dksX10_isProved_4 22 rfl rfl
theorem dksX10_isProved_6 : cX10_isProved.data.toList.drop 138 = dktX10_isProved_6 := dk_seg dksX10_isProved_5 22 rfl rfl
theorem dX10_isProved_0 : decode cX10_isProved 0 = .ok (.aload_n 0, 1) := dk_42 (dk_at dksX10_isProved_0 0 rfl rfl)
theorem dX10_isProved_1 : decode cX10_isProved 1 = .ok (.invokevirtual 107, 3) := dk_182 0 107 (dk_at dksX10_isProved_0 1 rfl rfl)
theorem dX10_isProved_4 : decode cX10_isProved 4 = .ok (.ifCond .ne 5, 3) := dk_154 0 5 (dk_at dksX10_isProved_0 4 rfl rfl)
theorem dX10_isProved_7 : decode cX10_isProved 7 = .ok (.iconst 0, 1) := dk_3 (dk_at dksX10_isProved_0 7 rfl rfl)
theorem dX10_isProved_8 : decode cX10_isProved 8 = .ok (.ireturn, 1) := dk_172 (dk_at dksX10_isProved_0 8 rfl rfl)
theorem dX10_isProved_9 : decode cX10_isProved 9 = .ok (.bipush 6, 2) := dk_16 6 (dk_at dksX10_isProved_0 9 rfl rfl)
theorem dX10_isProved_11 : decode cX10_isProved 11 = .ok (.newarray .int, 2) := dk_188_10 (dk_at dksX10_isProved_0 11 rfl rfl)
theorem dX10_isProved_13 : decode cX10_isProved 13 = .ok (.astore_n 1, 1) := dk_76 (dk_at dksX10_isProved_0 13 rfl rfl)
theorem dX10_isProved_14 : decode cX10_isProved 14 = .ok (.iconst 0, 1) := dk_3 (dk_at dksX10_isProved_0 14 rfl rfl)
theorem dX10_isProved_15 : decode cX10_isProved 15 = .ok (.istore_n 2, 1) := dk_61 (dk_at dksX10_isProved_0 15 rfl rfl)
theorem dX10_isProved_16 : decode cX10_isProved 16 = .ok (.iload_n 2, 1) := dk_28 (dk_at dksX10_isProved_0 16 rfl rfl)
theorem dX10_isProved_17 : decode cX10_isProved 17 = .ok (.aload_n 0, 1) := dk_42 (dk_at dksX10_isProved_0 17 rfl rfl)
theorem dX10_isProved_18 : decode cX10_isProved 18 = .ok (.getfield 26, 3) := dk_180 0 26 (dk_at dksX10_isProved_0 18 rfl rfl)
theorem dX10_isProved_21 : decode cX10_isProved 21 = .ok (.getfield 38, 3) := dk_180 0 38 (dk_at dksX10_isProved_0 21 rfl rfl)
theorem dX10_isProved_24 : decode cX10_isProved 24 = .ok (.invokevirtual 41, 3) := dk_182 0 41 (dk_at dksX10_isProved_1 0 rfl rfl)
theorem dX10_isProved_27 : decode cX10_isProved 27 = .ok (.if_icmp .ge 29, 3) := dk_162 0 29 (dk_at dksX10_isProved_1 3 rfl rfl)
theorem dX10_isProved_30 : decode cX10_isProved 30 = .ok (.aload_n 1, 1) := dk_43 (dk_at dksX10_isProved_1 6 rfl rfl)
theorem dX10_isProved_31 : decode cX10_isProved 31 = .ok (.iload_n 2, 1) := dk_28 (dk_at dksX10_isProved_1 7 rfl rfl)
theorem dX10_isProved_32 : decode cX10_isProved 32 = .ok (.aload_n 0, 1) := dk_42 (dk_at dksX10_isProved_1 8 rfl rfl)
theorem dX10_isProved_33 : decode cX10_isProved 33 = .ok (.getfield 26, 3) := dk_180 0 26 (dk_at dksX10_isProved_1 9 rfl rfl)
theorem dX10_isProved_36 : decode cX10_isProved 36 = .ok (.getfield 38, 3) := dk_180 0 38 (dk_at dksX10_isProved_1 12 rfl rfl)
theorem dX10_isProved_39 : decode cX10_isProved 39 = .ok (.iload_n 2, 1) := dk_28 (dk_at dksX10_isProved_1 15 rfl rfl)
theorem dX10_isProved_40 : decode cX10_isProved 40 = .ok (.invokevirtual 45, 3) := dk_182 0 45 (dk_at dksX10_isProved_1 16 rfl rfl)
theorem dX10_isProved_43 : decode cX10_isProved 43 = .ok (.checkcast 49, 3) := dk_192 0 49 (dk_at dksX10_isProved_1 19 rfl rfl)
theorem dX10_isProved_46 : decode cX10_isProved 46 = .ok (.invokevirtual 51, 3) := dk_182 0 51 (dk_at dksX10_isProved_2 0 rfl rfl)
theorem dX10_isProved_49 : decode cX10_isProved 49 = .ok (.iastore, 1) := dk_79 (dk_at dksX10_isProved_2 3 rfl rfl)
theorem dX10_isProved_50 : decode cX10_isProved 50 = .ok (.iinc 2 1, 3) := dk_132 2 1 (dk_at dksX10_isProved_2 4 rfl rfl)
theorem dX10_isProved_53 : decode cX10_isProved 53 = .ok (.goto (-37), 3) := dk_167 255 219 (dk_at dksX10_isProved_2 7 rfl rfl)
theorem dX10_isProved_56 : decode cX10_isProved 56 = .ok (.aload_n 0, 1) := dk_42 (dk_at dksX10_isProved_2 10 rfl rfl)
theorem dX10_isProved_57 : decode cX10_isProved 57 = .ok (.invokevirtual 133, 3) := dk_182 0 133 (dk_at dksX10_isProved_2 11 rfl rfl)
theorem dX10_isProved_60 : decode cX10_isProved 60 = .ok (.lstore_n 2, 1) := dk_65 (dk_at dksX10_isProved_2 14 rfl rfl)
theorem dX10_isProved_61 : decode cX10_isProved 61 = .ok (.iconst 0, 1) := dk_3 (dk_at dksX10_isProved_2 15 rfl rfl)
theorem dX10_isProved_62 : decode cX10_isProved 62 = .ok (.istore 4, 2) := dk_54 4 (dk_at dksX10_isProved_2 16 rfl rfl)
theorem dX10_isProved_64 : decode cX10_isProved 64 = .ok (.iload 4, 2) := dk_21 4 (dk_at dksX10_isProved_2 18 rfl rfl)
theorem dX10_isProved_66 : decode cX10_isProved 66 = .ok (.aload_n 0, 1) := dk_42 (dk_at dksX10_isProved_2 20 rfl rfl)
theorem dX10_isProved_67 : decode cX10_isProved 67 = .ok (.getfield 18, 3) := dk_180 0 18 (dk_at dksX10_isProved_2 21 rfl rfl)
theorem dX10_isProved_70 : decode cX10_isProved 70 = .ok (.invokevirtual 41, 3) := dk_182 0 41 (dk_at dksX10_isProved_3 0 rfl rfl)
theorem dX10_isProved_73 : decode cX10_isProved 73 = .ok (.if_icmp .ge 71, 3) := dk_162 0 71 (dk_at dksX10_isProved_3 3 rfl rfl)
theorem dX10_isProved_76 : decode cX10_isProved 76 = .ok (.aload_n 0, 1) := dk_42 (dk_at dksX10_isProved_3 6 rfl rfl)
theorem dX10_isProved_77 : decode cX10_isProved 77 = .ok (.getfield 18, 3) := dk_180 0 18 (dk_at dksX10_isProved_3 7 rfl rfl)
theorem dX10_isProved_80 : decode cX10_isProved 80 = .ok (.iload 4, 2) := dk_21 4 (dk_at dksX10_isProved_3 10 rfl rfl)
theorem dX10_isProved_82 : decode cX10_isProved 82 = .ok (.invokevirtual 45, 3) := dk_182 0 45 (dk_at dksX10_isProved_3 12 rfl rfl)
theorem dX10_isProved_85 : decode cX10_isProved 85 = .ok (.checkcast 54, 3) := dk_192 0 54 (dk_at dksX10_isProved_3 15 rfl rfl)
theorem dX10_isProved_88 : decode cX10_isProved 88 = .ok (.astore 5, 2) := dk_58 5 (dk_at dksX10_isProved_3 18 rfl rfl)
theorem dX10_isProved_90 : decode cX10_isProved 90 = .ok (.lload_n 2, 1) := dk_32 (dk_at dksX10_isProved_3 20 rfl rfl)
theorem dX10_isProved_91 : decode cX10_isProved 91 = .ok (.iload 4, 2) := dk_21 4 (dk_at dksX10_isProved_3 21 rfl rfl)
theorem dX10_isProved_93 : decode cX10_isProved 93 = .ok (.lshr, 1) := dk_123 (dk_at dksX10_isProved_3 23 rfl rfl)
theorem dX10_isProved_94 : decode cX10_isProved 94 = .ok (.lconst 1, 1) := dk_10 (dk_at dksX10_isProved_4 0 rfl rfl)
theorem dX10_isProved_95 : decode cX10_isProved 95 = .ok (.land, 1) := dk_127 (dk_at dksX10_isProved_4 1 rfl rfl)
theorem dX10_isProved_96 : decode cX10_isProved 96 = .ok (.lconst 1, 1) := dk_10 (dk_at dksX10_isProved_4 2 rfl rfl)
theorem dX10_isProved_97 : decode cX10_isProved 97 = .ok (.lcmp, 1) := dk_148 (dk_at dksX10_isProved_4 3 rfl rfl)
theorem dX10_isProved_98 : decode cX10_isProved 98 = .ok (.ifCond .ne 40, 3) := dk_154 0 40 (dk_at dksX10_isProved_4 4 rfl rfl)
theorem dX10_isProved_101 : decode cX10_isProved 101 = .ok (.aload 5, 2) := dk_25 5 (dk_at dksX10_isProved_4 7 rfl rfl)
theorem dX10_isProved_103 : decode cX10_isProved 103 = .ok (.getfield 137, 3) := dk_180 0 137 (dk_at dksX10_isProved_4 9 rfl rfl)
theorem dX10_isProved_106 : decode cX10_isProved 106 = .ok (.aload_n 0, 1) := dk_42 (dk_at dksX10_isProved_4 12 rfl rfl)
theorem dX10_isProved_107 : decode cX10_isProved 107 = .ok (.aload 5, 2) := dk_25 5 (dk_at dksX10_isProved_4 13 rfl rfl)
theorem dX10_isProved_109 : decode cX10_isProved 109 = .ok (.aload_n 1, 1) := dk_43 (dk_at dksX10_isProved_4 15 rfl rfl)
theorem dX10_isProved_110 : decode cX10_isProved 110 = .ok (.invokevirtual 140, 3) := dk_182 0 140 (dk_at dksX10_isProved_4 16 rfl rfl)
theorem dX10_isProved_113 : decode cX10_isProved 113 = .ok (.iconst (-1), 1) := dk_2 (dk_at dksX10_isProved_4 19 rfl rfl)
theorem dX10_isProved_114 : decode cX10_isProved 114 = .ok (.ixor, 1) := dk_130 (dk_at dksX10_isProved_4 20 rfl rfl)
theorem dX10_isProved_115 : decode cX10_isProved 115 = .ok (.iand, 1) := dk_126 (dk_at dksX10_isProved_4 21 rfl rfl)
theorem dX10_isProved_116 : decode cX10_isProved 116 = .ok (.ifCond .eq 5, 3) := dk_153 0 5 (dk_at dksX10_isProved_5 0 rfl rfl)
theorem dX10_isProved_119 : decode cX10_isProved 119 = .ok (.iconst 0, 1) := dk_3 (dk_at dksX10_isProved_5 3 rfl rfl)
theorem dX10_isProved_120 : decode cX10_isProved 120 = .ok (.ireturn, 1) := dk_172 (dk_at dksX10_isProved_5 4 rfl rfl)
theorem dX10_isProved_121 : decode cX10_isProved 121 = .ok (.aload_n 1, 1) := dk_43 (dk_at dksX10_isProved_5 5 rfl rfl)
theorem dX10_isProved_122 : decode cX10_isProved 122 = .ok (.aload 5, 2) := dk_25 5 (dk_at dksX10_isProved_5 6 rfl rfl)
theorem dX10_isProved_124 : decode cX10_isProved 124 = .ok (.getfield 56, 3) := dk_180 0 56 (dk_at dksX10_isProved_5 8 rfl rfl)
theorem dX10_isProved_127 : decode cX10_isProved 127 = .ok (.dup2, 1) := dk_92 (dk_at dksX10_isProved_5 11 rfl rfl)
theorem dX10_isProved_128 : decode cX10_isProved 128 = .ok (.iaload, 1) := dk_46 (dk_at dksX10_isProved_5 12 rfl rfl)
theorem dX10_isProved_129 : decode cX10_isProved 129 = .ok (.aload 5, 2) := dk_25 5 (dk_at dksX10_isProved_5 13 rfl rfl)
theorem dX10_isProved_131 : decode cX10_isProved 131 = .ok (.getfield 137, 3) := dk_180 0 137 (dk_at dksX10_isProved_5 15 rfl rfl)
theorem dX10_isProved_134 : decode cX10_isProved 134 = .ok (.iconst (-1), 1) := dk_2 (dk_at dksX10_isProved_5 18 rfl rfl)
theorem dX10_isProved_135 : decode cX10_isProved 135 = .ok (.ixor, 1) := dk_130 (dk_at dksX10_isProved_5 19 rfl rfl)
theorem dX10_isProved_136 : decode cX10_isProved 136 = .ok (.iand, 1) := dk_126 (dk_at dksX10_isProved_5 20 rfl rfl)
theorem dX10_isProved_137 : decode cX10_isProved 137 = .ok (.iastore, 1) := dk_79 (dk_at dksX10_isProved_5 21 rfl rfl)
theorem dX10_isProved_138 : decode cX10_isProved 138 = .ok (.iinc 4 1, 3) := dk_132 4 1 (dk_at dksX10_isProved_6 0 rfl rfl)
theorem dX10_isProved_141 : decode cX10_isProved 141 = .ok (.goto (-77), 3) := dk_167 255 179 (dk_at dksX10_isProved_6 3 rfl rfl)
theorem dX10_isProved_144 : decode cX10_isProved 144 = .ok (.aload_n 1, 1) := dk_43 (dk_at dksX10_isProved_6 6 rfl rfl)
theorem dX10_isProved_145 : decode cX10_isProved 145 = .ok (.aload_n 0, 1) := dk_42 (dk_at dksX10_isProved_6 7 rfl rfl)
theorem dX10_isProved_146 : decode cX10_isProved 146 = .ok (.getfield 22, 3) := dk_180 0 22 (dk_at dksX10_isProved_6 8 rfl rfl)
theorem dX10_isProved_149 : decode cX10_isProved 149 = .ok (.iaload, 1) := dk_46 (dk_at dksX10_isProved_6 11 rfl rfl)
theorem dX10_isProved_150 : decode cX10_isProved 150 = .ok (.ifCond .ne 7, 3) := dk_154 0 7 (dk_at dksX10_isProved_6 12 rfl rfl)
theorem dX10_isProved_153 : decode cX10_isProved 153 = .ok (.iconst 1, 1) := dk_4 (dk_at dksX10_isProved_6 15 rfl rfl)
theorem dX10_isProved_154 : decode cX10_isProved 154 = .ok (.goto 4, 3) := dk_167 0 4 (dk_at dksX10_isProved_6 16 rfl rfl)
theorem dX10_isProved_157 : decode cX10_isProved 157 = .ok (.iconst 0, 1) := dk_3 (dk_at dksX10_isProved_6 19 rfl rfl)
theorem dX10_isProved_158 : decode cX10_isProved 158 = .ok (.ireturn, 1) := dk_172 (dk_at dksX10_isProved_6 20 rfl rfl)
abbrev cX10_impossibleBy : ByteArray := prog_19_method_10_code
def yX10_impossibleBy : MethodName := ⟨RX10, "impossibleBy", "(LVersionSolver$Step;[I)I"⟩
def dkwX10_impossibleBy_2 : List UInt8 := [182, 0, 45, 192, 0, 66, 42, 180, 0, 36, 43, 180, 0, 126, 46, 44, 43, 180, 0, 56, 182, 0, 129, 172]
abbrev dktX10_impossibleBy_2 : List UInt8 := dkwX10_impossibleBy_2 ++ []
def dkwX10_impossibleBy_1 : List UInt8 := [182, 0, 45, 192, 0, 97, 180, 0, 100, 120, 2, 130, 172, 42, 180, 0, 26, 180, 0, 63, 43, 180, 0, 126]
abbrev dktX10_impossibleBy_1 : List UInt8 := dkwX10_impossibleBy_1 ++ dktX10_impossibleBy_2
def dkwX10_impossibleBy_0 : List UInt8 := [43, 180, 0, 126, 16, 100, 161, 0, 31, 4, 42, 180, 0, 26, 180, 0, 94, 43, 180, 0, 126, 16, 100, 100]
abbrev dktX10_impossibleBy_0 : List UInt8 := dkwX10_impossibleBy_0 ++ dktX10_impossibleBy_1
theorem dksX10_impossibleBy_0 : cX10_impossibleBy.data.toList.drop 0 = dktX10_impossibleBy_0 := by decide +kernel
theorem dksX10_impossibleBy_1 : cX10_impossibleBy.data.toList.drop 24 = dktX10_impossibleBy_1 := dk_seg dksX10_impossibleBy_0 24 rfl rfl
theorem dksX10_impossibleBy_2 : cX10_impossibleBy.data.toList.drop 48 = dktX10_impossibleBy_2 := dk_seg dksX10_impossibleBy_1 24 rfl rfl
theorem dX10_impossibleBy_0 : decode cX10_impossibleBy 0 = .ok (.aload_n 1, 1) := dk_43 (dk_at dksX10_impossibleBy_0 0 rfl rfl)
theorem dX10_impossibleBy_1 : decode cX10_impossibleBy 1 = .ok (.getfield 126, 3) := dk_180 0 126 (dk_at dksX10_impossibleBy_0 1 rfl rfl)
theorem dX10_impossibleBy_4 : decode cX10_impossibleBy 4 = .ok (.bipush 100, 2) := dk_16 100 (dk_at dksX10_impossibleBy_0 4 rfl rfl)
theorem dX10_impossibleBy_6 : decode cX10_impossibleBy 6 = .ok (.if_icmp .lt 31, 3) := dk_161 0 31 (dk_at dksX10_impossibleBy_0 6 rfl rfl)
theorem dX10_impossibleBy_9 : decode cX10_impossibleBy 9 = .ok (.iconst 1, 1) := dk_4 (dk_at dksX10_impossibleBy_0 9 rfl rfl)
theorem dX10_impossibleBy_10 : decode cX10_impossibleBy 10 = .ok (.aload_n 0, 1) := dk_42 (dk_at dksX10_impossibleBy_0 10 rfl rfl)
theorem dX10_impossibleBy_11 : decode cX10_impossibleBy 11 = .ok (.getfield 26, 3) := dk_180 0 26 (dk_at dksX10_impossibleBy_0 11 rfl rfl)
theorem dX10_impossibleBy_14 : decode cX10_impossibleBy 14 = .ok (.getfield 94, 3) := dk_180 0 94 (dk_at dksX10_impossibleBy_0 14 rfl rfl)
theorem dX10_impossibleBy_17 : decode cX10_impossibleBy 17 = .ok (.aload_n 1, 1) := dk_43 (dk_at dksX10_impossibleBy_0 17 rfl rfl)
theorem dX10_impossibleBy_18 : decode cX10_impossibleBy 18 = .ok (.getfield 126, 3) := dk_180 0 126 (dk_at dksX10_impossibleBy_0 18 rfl rfl)
theorem dX10_impossibleBy_21 : decode cX10_impossibleBy 21 = .ok (.bipush 100, 2) := dk_16 100 (dk_at dksX10_impossibleBy_0 21 rfl rfl)
theorem dX10_impossibleBy_23 : decode cX10_impossibleBy 23 = .ok (.isub, 1) := dk_100 (dk_at dksX10_impossibleBy_0 23 rfl rfl)
theorem dX10_impossibleBy_24 : decode cX10_impossibleBy 24 = .ok (.invokevirtual 45, 3) := dk_182 0 45 (dk_at dksX10_impossibleBy_1 0 rfl rfl)
theorem dX10_impossibleBy_27 : decode cX10_impossibleBy 27 = .ok (.checkcast 97, 3) := dk_192 0 97 (dk_at dksX10_impossibleBy_1 3 rfl rfl)
theorem dX10_impossibleBy_30 : decode cX10_impossibleBy 30 = .ok (.getfield 100, 3) := dk_180 0 100 (dk_at dksX10_impossibleBy_1 6 rfl rfl)
theorem dX10_impossibleBy_33 : decode cX10_impossibleBy 33 = .ok (.ishl, 1) := dk_120 (dk_at dksX10_impossibleBy_1 9 rfl rfl)
theorem dX10_impossibleBy_34 : decode cX10_impossibleBy 34 = .ok (.iconst (-1), 1) := dk_2 (dk_at dksX10_impossibleBy_1 10 rfl rfl)
theorem dX10_impossibleBy_35 : decode cX10_impossibleBy 35 = .ok (.ixor, 1) := dk_130 (dk_at dksX10_impossibleBy_1 11 rfl rfl)
theorem dX10_impossibleBy_36 : decode cX10_impossibleBy 36 = .ok (.ireturn, 1) := dk_172 (dk_at dksX10_impossibleBy_1 12 rfl rfl)
theorem dX10_impossibleBy_37 : decode cX10_impossibleBy 37 = .ok (.aload_n 0, 1) := dk_42 (dk_at dksX10_impossibleBy_1 13 rfl rfl)
theorem dX10_impossibleBy_38 : decode cX10_impossibleBy 38 = .ok (.getfield 26, 3) := dk_180 0 26 (dk_at dksX10_impossibleBy_1 14 rfl rfl)
theorem dX10_impossibleBy_41 : decode cX10_impossibleBy 41 = .ok (.getfield 63, 3) := dk_180 0 63 (dk_at dksX10_impossibleBy_1 17 rfl rfl)
theorem dX10_impossibleBy_44 : decode cX10_impossibleBy 44 = .ok (.aload_n 1, 1) := dk_43 (dk_at dksX10_impossibleBy_1 20 rfl rfl)
theorem dX10_impossibleBy_45 : decode cX10_impossibleBy 45 = .ok (.getfield 126, 3) := dk_180 0 126 (dk_at dksX10_impossibleBy_1 21 rfl rfl)
theorem dX10_impossibleBy_48 : decode cX10_impossibleBy 48 = .ok (.invokevirtual 45, 3) := dk_182 0 45 (dk_at dksX10_impossibleBy_2 0 rfl rfl)
theorem dX10_impossibleBy_51 : decode cX10_impossibleBy 51 = .ok (.checkcast 66, 3) := dk_192 0 66 (dk_at dksX10_impossibleBy_2 3 rfl rfl)
theorem dX10_impossibleBy_54 : decode cX10_impossibleBy 54 = .ok (.aload_n 0, 1) := dk_42 (dk_at dksX10_impossibleBy_2 6 rfl rfl)
theorem dX10_impossibleBy_55 : decode cX10_impossibleBy 55 = .ok (.getfield 36, 3) := dk_180 0 36 (dk_at dksX10_impossibleBy_2 7 rfl rfl)
theorem dX10_impossibleBy_58 : decode cX10_impossibleBy 58 = .ok (.aload_n 1, 1) := dk_43 (dk_at dksX10_impossibleBy_2 10 rfl rfl)
theorem dX10_impossibleBy_59 : decode cX10_impossibleBy 59 = .ok (.getfield 126, 3) := dk_180 0 126 (dk_at dksX10_impossibleBy_2 11 rfl rfl)
theorem dX10_impossibleBy_62 : decode cX10_impossibleBy 62 = .ok (.iaload, 1) := dk_46 (dk_at dksX10_impossibleBy_2 14 rfl rfl)
theorem dX10_impossibleBy_63 : decode cX10_impossibleBy 63 = .ok (.aload_n 2, 1) := dk_44 (dk_at dksX10_impossibleBy_2 15 rfl rfl)
theorem dX10_impossibleBy_64 : decode cX10_impossibleBy 64 = .ok (.aload_n 1, 1) := dk_43 (dk_at dksX10_impossibleBy_2 16 rfl rfl)
theorem dX10_impossibleBy_65 : decode cX10_impossibleBy 65 = .ok (.getfield 56, 3) := dk_180 0 56 (dk_at dksX10_impossibleBy_2 17 rfl rfl)
theorem dX10_impossibleBy_68 : decode cX10_impossibleBy 68 = .ok (.invokevirtual 129, 3) := dk_182 0 129 (dk_at dksX10_impossibleBy_2 20 rfl rfl)
theorem dX10_impossibleBy_71 : decode cX10_impossibleBy 71 = .ok (.ireturn, 1) := dk_172 (dk_at dksX10_impossibleBy_2 23 rfl rfl)
theorem q115 : (Jvm.Cond.initialized "VersionSolver$Trace") ∈ lw_all := lw_g (lw_at lw_m1 26 rfl) rfl
theorem q182 : (Jvm.Cond.fieldLinkNest "VersionSolver$Trace" (38 : Nat) "VersionSolver$Board" "packs" "Ljava/util/ArrayList;" "VersionSolver") ∈ lw_tbl := lw_at lw_m1 93 rfl
theorem q186 : (Jvm.Cond.fieldLinkNest "VersionSolver$Trace" (63 : Nat) "VersionSolver$Board" "rules" "Ljava/util/ArrayList;" "VersionSolver") ∈ lw_tbl := lw_at lw_m1 97 rfl
theorem q192 : (Jvm.Cond.fieldLinkNest "VersionSolver$Trace" (94 : Nat) "VersionSolver$Board" "assumptions" "Ljava/util/ArrayList;" "VersionSolver") ∈ lw_tbl := lw_at lw_m1 103 rfl
theorem q420 : (Jvm.Cond.selects "VersionSolver$Trace" ({ cls := "java/lang/Object", name := "getClass", desc := "()Ljava/lang/Class;" } : Jvm.MethodName) ({ cls := "java/lang/Object", name := "getClass", desc := "()Ljava/lang/Class;" } : Jvm.MethodName)) ∈ lw_all := lw_g (lw_at lw_m2 91 rfl) rfl
theorem q853 : (Jvm.Cond.instantiable "VersionSolver$Trace" (5 : Nat)) ∈ lw_all := lw_g (lw_at lw_m4 44 rfl) rfl
theorem q855 : (Jvm.Cond.instanceMethod ({ cls := "VersionSolver$Trace", name := "<init>", desc := "(LVersionSolver$Board;)V" } : Jvm.MethodName)) ∈ lw_all := lw_g (lw_at lw_m4 46 rfl) rfl
theorem q856 : (Jvm.Cond.code ({ cls := "VersionSolver$Trace", name := "<init>", desc := "(LVersionSolver$Board;)V" } : Jvm.MethodName) prog_19_method_1_code (3 : Nat) (Option.none : Option Jvm.ClassFile.FieldType)) ∈ lw_all := lw_g (lw_at lw_m4 47 rfl) rfl
theorem q857 : (Jvm.Cond.methodLink "VersionSolver$Trace" (3 : Nat) ({ cls := "java/lang/Object", name := "<init>", desc := "()V" } : Jvm.MethodName)) ∈ lw_all := lw_g (lw_at lw_m4 48 rfl) rfl
theorem q858 : (Jvm.Cond.classLink "VersionSolver$Trace" (15 : Nat) "java/util/ArrayList") ∈ lw_all := lw_g (lw_at lw_m4 49 rfl) rfl
theorem q859 : (Jvm.Cond.methodLink "VersionSolver$Trace" (17 : Nat) ({ cls := "java/util/ArrayList", name := "<init>", desc := "()V" } : Jvm.MethodName)) ∈ lw_all := lw_g (lw_at lw_m4 50 rfl) rfl
theorem q862 : (Jvm.Cond.methodLink "VersionSolver$Trace" (30 : Nat) ({ cls := "VersionSolver$Board", name := "masks", desc := "()[I" } : Jvm.MethodName)) ∈ lw_all := lw_g (lw_at lw_m4 53 rfl) rfl
theorem q886 : (Jvm.Cond.methodLink "VersionSolver$Trace" (41 : Nat) ({ cls := "java/util/ArrayList", name := "size", desc := "()I" } : Jvm.MethodName)) ∈ lw_all := lw_g (lw_at lw_m4 77 rfl) rfl
theorem q887 : (Jvm.Cond.methodLink "VersionSolver$Trace" (45 : Nat) ({ cls := "java/util/ArrayList", name := "get", desc := "(I)Ljava/lang/Object;" } : Jvm.MethodName)) ∈ lw_all := lw_g (lw_at lw_m4 78 rfl) rfl
theorem q888 : (Jvm.Cond.classLink "VersionSolver$Trace" (49 : Nat) "VersionSolver$Pack") ∈ lw_all := lw_g (lw_at lw_m4 79 rfl) rfl
theorem q889 : (Jvm.Cond.methodLink "VersionSolver$Trace" (51 : Nat) ({ cls := "VersionSolver$Pack", name := "all", desc := "()I" } : Jvm.MethodName)) ∈ lw_all := lw_g (lw_at lw_m4 80 rfl) rfl
theorem q893 : (Jvm.Cond.fieldLink "VersionSolver$Trace" (26 : Nat) "VersionSolver$Trace" "board" "LVersionSolver$Board;") ∈ lw_all := lw_g (lw_at lw_m4 84 rfl) rfl
theorem q894 : (Jvm.Cond.fieldLink "VersionSolver$Trace" (36 : Nat) "VersionSolver$Trace" "masks" "[I") ∈ lw_all := lw_g (lw_at lw_m4 85 rfl) rfl
theorem q897 : (Jvm.Cond.fieldLink "VersionSolver$Trace" (9 : Nat) "VersionSolver$Trace" "left" "[I") ∈ lw_all := lw_g (lw_at lw_m4 88 rfl) rfl
theorem q901 : (Jvm.Cond.fieldLink "VersionSolver$Trace" (18 : Nat) "VersionSolver$Trace" "steps" "Ljava/util/ArrayList;") ∈ lw_all := lw_g (lw_at lw_m4 92 rfl) rfl
theorem q903 : (Jvm.Cond.fieldLink "VersionSolver$Trace" (22 : Nat) "VersionSolver$Trace" "conflict" "I") ∈ lw_all := lw_g (lw_at lw_m4 94 rfl) rfl
theorem q905 : (Jvm.Cond.laysFinal "VersionSolver$Trace" "VersionSolver$Trace" "board" "LVersionSolver$Board;") ∈ lw_all := lw_g (lw_at lw_m4 96 rfl) rfl
theorem q906 : (Jvm.Cond.soleField "VersionSolver$Trace" "board") ∈ lw_all := lw_g (lw_at lw_m4 97 rfl) rfl
theorem q907 : (Jvm.Cond.laysFinal "VersionSolver$Trace" "VersionSolver$Trace" "masks" "[I") ∈ lw_all := lw_g (lw_at lw_m4 98 rfl) rfl
theorem q908 : (Jvm.Cond.soleField "VersionSolver$Trace" "masks") ∈ lw_all := lw_g (lw_at lw_m4 99 rfl) rfl
theorem q909 : (Jvm.Cond.laysFinal "VersionSolver$Trace" "VersionSolver$Trace" "left" "[I") ∈ lw_all := lw_g (lw_at lw_m4 100 rfl) rfl
theorem q910 : (Jvm.Cond.soleField "VersionSolver$Trace" "left") ∈ lw_all := lw_g (lw_at lw_m4 101 rfl) rfl
theorem q911 : (Jvm.Cond.laysFinal "VersionSolver$Trace" "VersionSolver$Trace" "steps" "Ljava/util/ArrayList;") ∈ lw_all := lw_g (lw_at lw_m4 102 rfl) rfl
theorem q912 : (Jvm.Cond.soleField "VersionSolver$Trace" "steps") ∈ lw_all := lw_g (lw_at lw_m4 103 rfl) rfl
theorem q913 : (Jvm.Cond.lays "VersionSolver$Trace" "VersionSolver$Trace" "conflict" "I") ∈ lw_all := lw_g (lw_at lw_m4 104 rfl) rfl
theorem q914 : (Jvm.Cond.soleField "VersionSolver$Trace" "conflict") ∈ lw_all := lw_g (lw_at lw_m4 105 rfl) rfl
theorem q915 : (Jvm.Cond.superclass "VersionSolver$Trace" "java/lang/Object") ∈ lw_all := lw_g (lw_at lw_m4 106 rfl) rfl
theorem q921 : (Jvm.Cond.instanceMethod ({ cls := "VersionSolver$Trace", name := "runs", desc := "(I)LVersionSolver$Trace;" } : Jvm.MethodName)) ∈ lw_all := lw_g (lw_at lw_m4 112 rfl) rfl
theorem q922 : (Jvm.Cond.selects "VersionSolver$Trace" ({ cls := "VersionSolver$Trace", name := "runs", desc := "(I)LVersionSolver$Trace;" } : Jvm.MethodName) ({ cls := "VersionSolver$Trace", name := "runs", desc := "(I)LVersionSolver$Trace;" } : Jvm.MethodName)) ∈ lw_all := lw_g (lw_at lw_m4 113 rfl) rfl
theorem q923 : (Jvm.Cond.code ({ cls := "VersionSolver$Trace", name := "runs", desc := "(I)LVersionSolver$Trace;" } : Jvm.MethodName) prog_19_method_6_code (4 : Nat) (Option.some (Jvm.ClassFile.FieldType.object "VersionSolver$Trace"))) ∈ lw_all := lw_g (lw_at lw_m4 114 rfl) rfl
theorem q924 : (Jvm.Cond.methodLink "VersionSolver$Trace" (91 : Nat) ({ cls := "VersionSolver$Trace", name := "settles", desc := "()V" } : Jvm.MethodName)) ∈ lw_all := lw_g (lw_at lw_m4 115 rfl) rfl
theorem q925 : (Jvm.Cond.privateMethod ({ cls := "VersionSolver$Trace", name := "settles", desc := "()V" } : Jvm.MethodName)) ∈ lw_tbl := lw_at lw_m4 116 rfl
theorem q926 : (Jvm.Cond.instanceMethod ({ cls := "VersionSolver$Trace", name := "settles", desc := "()V" } : Jvm.MethodName)) ∈ lw_all := lw_g (lw_at lw_m4 117 rfl) rfl
theorem q927 : (Jvm.Cond.code ({ cls := "VersionSolver$Trace", name := "settles", desc := "()V" } : Jvm.MethodName) prog_19_method_5_code (2 : Nat) (Option.none : Option Jvm.ClassFile.FieldType)) ∈ lw_all := lw_g (lw_at lw_m4 118 rfl) rfl
theorem q928 : (Jvm.Cond.methodLink "VersionSolver$Trace" (87 : Nat) ({ cls := "VersionSolver$Trace", name := "passes", desc := "()Z" } : Jvm.MethodName)) ∈ lw_all := lw_g (lw_at lw_m4 119 rfl) rfl
theorem q929 : (Jvm.Cond.privateMethod ({ cls := "VersionSolver$Trace", name := "passes", desc := "()Z" } : Jvm.MethodName)) ∈ lw_tbl := lw_at lw_m4 120 rfl
theorem q930 : (Jvm.Cond.instanceMethod ({ cls := "VersionSolver$Trace", name := "passes", desc := "()Z" } : Jvm.MethodName)) ∈ lw_all := lw_g (lw_at lw_m4 121 rfl) rfl
theorem q931 : (Jvm.Cond.code ({ cls := "VersionSolver$Trace", name := "passes", desc := "()Z" } : Jvm.MethodName) prog_19_method_4_code (3 : Nat) (Option.some Jvm.ClassFile.FieldType.boolean)) ∈ lw_all := lw_g (lw_at lw_m4 122 rfl) rfl
theorem q932 : (Jvm.Cond.classLink "VersionSolver$Trace" (66 : Nat) "VersionSolver$Rule") ∈ lw_all := lw_g (lw_at lw_m4 123 rfl) rfl
theorem q933 : (Jvm.Cond.methodLink "VersionSolver$Trace" (83 : Nat) ({ cls := "VersionSolver$Rule", name := "narrows", desc := "(LVersionSolver$Trace;I)V" } : Jvm.MethodName)) ∈ lw_all := lw_g (lw_at lw_m4 124 rfl) rfl
theorem q955 : (Jvm.Cond.instanceMethod ({ cls := "VersionSolver$Trace", name := "leavesOut", desc := "(III)V" } : Jvm.MethodName)) ∈ lw_all := lw_g (lw_at lw_m4 146 rfl) rfl
theorem q956 : (Jvm.Cond.selects "VersionSolver$Trace" ({ cls := "VersionSolver$Trace", name := "leavesOut", desc := "(III)V" } : Jvm.MethodName) ({ cls := "VersionSolver$Trace", name := "leavesOut", desc := "(III)V" } : Jvm.MethodName)) ∈ lw_all := lw_g (lw_at lw_m4 147 rfl) rfl
theorem q957 : (Jvm.Cond.code ({ cls := "VersionSolver$Trace", name := "leavesOut", desc := "(III)V" } : Jvm.MethodName) prog_19_method_3_code (7 : Nat) (Option.none : Option Jvm.ClassFile.FieldType)) ∈ lw_all := lw_g (lw_at lw_m4 148 rfl) rfl
theorem q958 : (Jvm.Cond.methodLink "VersionSolver$Trace" (68 : Nat) ({ cls := "VersionSolver$Rule", name := "conditions", desc := "(I)I" } : Jvm.MethodName)) ∈ lw_all := lw_g (lw_at lw_m4 149 rfl) rfl
theorem q971 : (Jvm.Cond.methodLink "VersionSolver$Trace" (72 : Nat) ({ cls := "VersionSolver$Trace", name := "stepsFor", desc := "(I)J" } : Jvm.MethodName)) ∈ lw_all := lw_g (lw_at lw_m4 162 rfl) rfl
theorem q972 : (Jvm.Cond.privateMethod ({ cls := "VersionSolver$Trace", name := "stepsFor", desc := "(I)J" } : Jvm.MethodName)) ∈ lw_tbl := lw_at lw_m4 163 rfl
theorem q973 : (Jvm.Cond.instanceMethod ({ cls := "VersionSolver$Trace", name := "stepsFor", desc := "(I)J" } : Jvm.MethodName)) ∈ lw_all := lw_g (lw_at lw_m4 164 rfl) rfl
theorem q974 : (Jvm.Cond.code ({ cls := "VersionSolver$Trace", name := "stepsFor", desc := "(I)J" } : Jvm.MethodName) prog_19_method_2_code (5 : Nat) (Option.some Jvm.ClassFile.FieldType.long)) ∈ lw_all := lw_g (lw_at lw_m4 165 rfl) rfl
theorem q975 : (Jvm.Cond.classLink "VersionSolver$Trace" (54 : Nat) "VersionSolver$Step") ∈ lw_all := lw_g (lw_at lw_m4 166 rfl) rfl
theorem q976 : (Jvm.Cond.methodLinkNest "VersionSolver$Trace" (59 : Nat) ({ cls := "VersionSolver", name := "has", desc := "(II)Z" } : Jvm.MethodName) "VersionSolver") ∈ lw_tbl := lw_at lw_m4 167 rfl
theorem q978 : (Jvm.Cond.methodLink "VersionSolver$Trace" (76 : Nat) ({ cls := "VersionSolver$Step", name := "<init>", desc := "(IIIJ)V" } : Jvm.MethodName)) ∈ lw_all := lw_g (lw_at lw_m4 169 rfl) rfl
theorem q983 : (Jvm.Cond.fieldLinkNest "VersionSolver$Trace" (126 : Nat) "VersionSolver$Step" "by" "I" "VersionSolver") ∈ lw_tbl := lw_at lw_m4 174 rfl
theorem q986 : (Jvm.Cond.fieldLinkNest "VersionSolver$Trace" (56 : Nat) "VersionSolver$Step" "pack" "I" "VersionSolver") ∈ lw_tbl := lw_at lw_m4 177 rfl
theorem q989 : (Jvm.Cond.fieldLinkNest "VersionSolver$Trace" (137 : Nat) "VersionSolver$Step" "out" "I" "VersionSolver") ∈ lw_tbl := lw_at lw_m4 180 rfl
theorem q992 : (Jvm.Cond.fieldLinkNest "VersionSolver$Trace" (120 : Nat) "VersionSolver$Step" "rests" "J" "VersionSolver") ∈ lw_tbl := lw_at lw_m4 183 rfl
theorem q1003 : (Jvm.Cond.methodLink "VersionSolver$Trace" (79 : Nat) ({ cls := "java/util/ArrayList", name := "add", desc := "(Ljava/lang/Object;)Z" } : Jvm.MethodName)) ∈ lw_all := lw_g (lw_at lw_m4 194 rfl) rfl
theorem q1017 : (Jvm.Cond.classLink "VersionSolver$Trace" (97 : Nat) "VersionSolver$Assumption") ∈ lw_all := lw_g (lw_at lw_m4 208 rfl) rfl
theorem q1018 : (Jvm.Cond.methodLink "VersionSolver$Trace" (103 : Nat) ({ cls := "VersionSolver$Trace", name := "leavesOut", desc := "(III)V" } : Jvm.MethodName)) ∈ lw_all := lw_g (lw_at lw_m4 209 rfl) rfl
theorem q1055 : (Jvm.Cond.instanceMethod ({ cls := "VersionSolver$Trace", name := "proof", desc := "()J" } : Jvm.MethodName)) ∈ lw_all := lw_g (lw_at lw_m5 6 rfl) rfl
theorem q1056 : (Jvm.Cond.selects "VersionSolver$Trace" ({ cls := "VersionSolver$Trace", name := "proof", desc := "()J" } : Jvm.MethodName) ({ cls := "VersionSolver$Trace", name := "proof", desc := "()J" } : Jvm.MethodName)) ∈ lw_all := lw_g (lw_at lw_m5 7 rfl) rfl
theorem q1057 : (Jvm.Cond.code ({ cls := "VersionSolver$Trace", name := "proof", desc := "()J" } : Jvm.MethodName) prog_19_method_8_code (1 : Nat) (Option.some Jvm.ClassFile.FieldType.long)) ∈ lw_all := lw_g (lw_at lw_m5 8 rfl) rfl
theorem q1058 : (Jvm.Cond.methodLink "VersionSolver$Trace" (107 : Nat) ({ cls := "VersionSolver$Trace", name := "isConflict", desc := "()Z" } : Jvm.MethodName)) ∈ lw_all := lw_g (lw_at lw_m5 9 rfl) rfl
theorem q1059 : (Jvm.Cond.instanceMethod ({ cls := "VersionSolver$Trace", name := "isConflict", desc := "()Z" } : Jvm.MethodName)) ∈ lw_all := lw_g (lw_at lw_m5 10 rfl) rfl
theorem q1060 : (Jvm.Cond.selects "VersionSolver$Trace" ({ cls := "VersionSolver$Trace", name := "isConflict", desc := "()Z" } : Jvm.MethodName) ({ cls := "VersionSolver$Trace", name := "isConflict", desc := "()Z" } : Jvm.MethodName)) ∈ lw_all := lw_g (lw_at lw_m5 11 rfl) rfl
theorem q1061 : (Jvm.Cond.code ({ cls := "VersionSolver$Trace", name := "isConflict", desc := "()Z" } : Jvm.MethodName) prog_19_method_7_code (1 : Nat) (Option.some Jvm.ClassFile.FieldType.boolean)) ∈ lw_all := lw_g (lw_at lw_m5 12 rfl) rfl
theorem q1062 : (Jvm.Cond.methodLink "VersionSolver$Trace" (110 : Nat) ({ cls := "VersionSolver$Trace", name := "gathers", desc := "(JJ)J" } : Jvm.MethodName)) ∈ lw_all := lw_g (lw_at lw_m5 13 rfl) rfl
theorem q1063 : (Jvm.Cond.privateMethod ({ cls := "VersionSolver$Trace", name := "gathers", desc := "(JJ)J" } : Jvm.MethodName)) ∈ lw_tbl := lw_at lw_m5 14 rfl
theorem q1064 : (Jvm.Cond.instanceMethod ({ cls := "VersionSolver$Trace", name := "gathers", desc := "(JJ)J" } : Jvm.MethodName)) ∈ lw_all := lw_g (lw_at lw_m5 15 rfl) rfl
theorem q1065 : (Jvm.Cond.code ({ cls := "VersionSolver$Trace", name := "gathers", desc := "(JJ)J" } : Jvm.MethodName) prog_19_method_9_code (8 : Nat) (Option.some Jvm.ClassFile.FieldType.long)) ∈ lw_all := lw_g (lw_at lw_m5 16 rfl) rfl
theorem q1066 : (Jvm.Cond.methodLink "VersionSolver$Trace" (114 : Nat) ({ cls := "java/lang/Long", name := "numberOfTrailingZeros", desc := "(J)I" } : Jvm.MethodName)) ∈ lw_all := lw_g (lw_at lw_m5 17 rfl) rfl
theorem q1073 : (Jvm.Cond.constantLong "VersionSolver$Trace" (124 : Nat) (-1 : Int64)) ∈ lw_all := lw_g (lw_at lw_m5 24 rfl) rfl
theorem q1079 : (Jvm.Cond.instanceMethod ({ cls := "VersionSolver$Trace", name := "isProved", desc := "()Z" } : Jvm.MethodName)) ∈ lw_all := lw_g (lw_at lw_m5 30 rfl) rfl
theorem q1080 : (Jvm.Cond.selects "VersionSolver$Trace" ({ cls := "VersionSolver$Trace", name := "isProved", desc := "()Z" } : Jvm.MethodName) ({ cls := "VersionSolver$Trace", name := "isProved", desc := "()Z" } : Jvm.MethodName)) ∈ lw_all := lw_g (lw_at lw_m5 31 rfl) rfl
theorem q1081 : (Jvm.Cond.code ({ cls := "VersionSolver$Trace", name := "isProved", desc := "()Z" } : Jvm.MethodName) prog_19_method_11_code (6 : Nat) (Option.some Jvm.ClassFile.FieldType.boolean)) ∈ lw_all := lw_g (lw_at lw_m5 32 rfl) rfl
theorem q1082 : (Jvm.Cond.methodLink "VersionSolver$Trace" (133 : Nat) ({ cls := "VersionSolver$Trace", name := "proof", desc := "()J" } : Jvm.MethodName)) ∈ lw_all := lw_g (lw_at lw_m5 33 rfl) rfl
theorem q1083 : (Jvm.Cond.methodLink "VersionSolver$Trace" (140 : Nat) ({ cls := "VersionSolver$Trace", name := "impossibleBy", desc := "(LVersionSolver$Step;[I)I" } : Jvm.MethodName)) ∈ lw_all := lw_g (lw_at lw_m5 34 rfl) rfl
theorem q1084 : (Jvm.Cond.privateMethod ({ cls := "VersionSolver$Trace", name := "impossibleBy", desc := "(LVersionSolver$Step;[I)I" } : Jvm.MethodName)) ∈ lw_tbl := lw_at lw_m5 35 rfl
theorem q1085 : (Jvm.Cond.instanceMethod ({ cls := "VersionSolver$Trace", name := "impossibleBy", desc := "(LVersionSolver$Step;[I)I" } : Jvm.MethodName)) ∈ lw_all := lw_g (lw_at lw_m5 36 rfl) rfl
theorem q1086 : (Jvm.Cond.code ({ cls := "VersionSolver$Trace", name := "impossibleBy", desc := "(LVersionSolver$Step;[I)I" } : Jvm.MethodName) prog_19_method_10_code (3 : Nat) (Option.some Jvm.ClassFile.FieldType.int)) ∈ lw_all := lw_g (lw_at lw_m5 37 rfl) rfl
theorem q1087 : (Jvm.Cond.methodLink "VersionSolver$Trace" (129 : Nat) ({ cls := "VersionSolver$Rule", name := "impossible", desc := "(I[II)I" } : Jvm.MethodName)) ∈ lw_all := lw_g (lw_at lw_m5 38 rfl) rfl
theorem q1116 : (Jvm.Cond.fieldLinkNest "VersionSolver$Trace" (99 : Nat) "VersionSolver$Assumption" "pack" "I" "VersionSolver") ∈ lw_tbl := lw_at lw_m5 67 rfl
theorem q1121 : (Jvm.Cond.fieldLinkNest "VersionSolver$Trace" (100 : Nat) "VersionSolver$Assumption" "state" "I" "VersionSolver") ∈ lw_tbl := lw_at lw_m5 72 rfl
theorem q2514 : (Jvm.Cond.castable "VersionSolver$Trace" "java/lang/Object") ∈ lw_tbl := lw_at lw_m11 25 rfl
theorem in_X10 : ∀ w ∈ wsX100, w ∈ lw_all := lw_in wsX100 [905, 907, 909, 911, 913] (by decide +kernel) (by decide +kernel)
/-! VersionSolver$Step -/
set_option maxRecDepth 100000
def RX11 : String := "VersionSolver$Step"
def TX11 : u_T := fun k => match k with
  | 0 => ("VersionSolver$Step", "by", "I", true)
  | 1 => ("VersionSolver$Step", "pack", "I", true)
  | 2 => ("VersionSolver$Step", "out", "I", true)
  | _ => ("VersionSolver$Step", "rests", "J", true)
def tyX11 : Nat → FieldType := fun k => match k with
  | 0 => .int
  | 1 => .int
  | 2 => .int
  | _ => .long
abbrev wsX110 : List Cond := u_ws RX11 TX11 4
theorem nmX11 : ∀ a, a < 4 → ∀ b, b < 4 → a ≠ b → (TX11 a).2.1 ≠ (TX11 b).2.1 := by decide +kernel
theorem tyX11_ok : ∀ k, k < 4 → parseFieldDescriptor (TX11 k).2.2.1 = some (tyX11 k) := by decide +kernel
abbrev cX11_init : ByteArray := prog_17_method_1_code
def yX11_init : MethodName := ⟨RX11, "<init>", "(IIIJ)V"⟩
def dkwX11_init_1 : List UInt8 := [181, 0, 19, 177]
abbrev dktX11_init_1 : List UInt8 := dkwX11_init_1 ++ []
def dkwX11_init_0 : List UInt8 := [42, 183, 0, 1, 42, 27, 181, 0, 7, 42, 28, 181, 0, 13, 42, 29, 181, 0, 16, 42, 22, 4]
abbrev dktX11_init_0 : List UInt8 := dkwX11_init_0 ++ dktX11_init_1
theorem dksX11_init_0 : cX11_init.data.toList.drop 0 = dktX11_init_0 := by decide +kernel
theorem dksX11_init_1 : cX11_init.data.toList.drop 22 = dktX11_init_1 := dk_seg dksX11_init_0 22 rfl rfl
theorem dX11_init_0 : decode cX11_init 0 = .ok (.aload_n 0, 1) := dk_42 (dk_at dksX11_init_0 0 rfl rfl)
theorem dX11_init_1 : decode cX11_init 1 = .ok (.invokespecial 1, 3) := dk_183 0 1 (dk_at dksX11_init_0 1 rfl rfl)
theorem dX11_init_4 : decode cX11_init 4 = .ok (.aload_n 0, 1) := dk_42 (dk_at dksX11_init_0 4 rfl rfl)
theorem dX11_init_5 : decode cX11_init 5 = .ok (.iload_n 1, 1) := dk_27 (dk_at dksX11_init_0 5 rfl rfl)
theorem dX11_init_6 : decode cX11_init 6 = .ok (.putfield 7, 3) := dk_181 0 7 (dk_at dksX11_init_0 6 rfl rfl)
theorem dX11_init_9 : decode cX11_init 9 = .ok (.aload_n 0, 1) := dk_42 (dk_at dksX11_init_0 9 rfl rfl)
theorem dX11_init_10 : decode cX11_init 10 = .ok (.iload_n 2, 1) := dk_28 (dk_at dksX11_init_0 10 rfl rfl)
theorem dX11_init_11 : decode cX11_init 11 = .ok (.putfield 13, 3) := dk_181 0 13 (dk_at dksX11_init_0 11 rfl rfl)
theorem dX11_init_14 : decode cX11_init 14 = .ok (.aload_n 0, 1) := dk_42 (dk_at dksX11_init_0 14 rfl rfl)
theorem dX11_init_15 : decode cX11_init 15 = .ok (.iload_n 3, 1) := dk_29 (dk_at dksX11_init_0 15 rfl rfl)
theorem dX11_init_16 : decode cX11_init 16 = .ok (.putfield 16, 3) := dk_181 0 16 (dk_at dksX11_init_0 16 rfl rfl)
theorem dX11_init_19 : decode cX11_init 19 = .ok (.aload_n 0, 1) := dk_42 (dk_at dksX11_init_0 19 rfl rfl)
theorem dX11_init_20 : decode cX11_init 20 = .ok (.lload 4, 2) := dk_22 4 (dk_at dksX11_init_0 20 rfl rfl)
theorem dX11_init_22 : decode cX11_init 22 = .ok (.putfield 19, 3) := dk_181 0 19 (dk_at dksX11_init_1 0 rfl rfl)
theorem dX11_init_25 : decode cX11_init 25 = .ok (.return_, 1) := dk_177 (dk_at dksX11_init_1 3 rfl rfl)
theorem q116 : (Jvm.Cond.initialized "VersionSolver$Step") ∈ lw_all := lw_g (lw_at lw_m1 27 rfl) rfl
theorem q419 : (Jvm.Cond.selects "VersionSolver$Step" ({ cls := "java/lang/Object", name := "getClass", desc := "()Ljava/lang/Class;" } : Jvm.MethodName) ({ cls := "java/lang/Object", name := "getClass", desc := "()Ljava/lang/Class;" } : Jvm.MethodName)) ∈ lw_all := lw_g (lw_at lw_m2 90 rfl) rfl
theorem q977 : (Jvm.Cond.instantiable "VersionSolver$Step" (4 : Nat)) ∈ lw_all := lw_g (lw_at lw_m4 168 rfl) rfl
theorem q979 : (Jvm.Cond.instanceMethod ({ cls := "VersionSolver$Step", name := "<init>", desc := "(IIIJ)V" } : Jvm.MethodName)) ∈ lw_all := lw_g (lw_at lw_m4 170 rfl) rfl
theorem q980 : (Jvm.Cond.code ({ cls := "VersionSolver$Step", name := "<init>", desc := "(IIIJ)V" } : Jvm.MethodName) prog_17_method_1_code (6 : Nat) (Option.none : Option Jvm.ClassFile.FieldType)) ∈ lw_all := lw_g (lw_at lw_m4 171 rfl) rfl
theorem q981 : (Jvm.Cond.methodLink "VersionSolver$Step" (1 : Nat) ({ cls := "java/lang/Object", name := "<init>", desc := "()V" } : Jvm.MethodName)) ∈ lw_all := lw_g (lw_at lw_m4 172 rfl) rfl
theorem q982 : (Jvm.Cond.fieldLink "VersionSolver$Step" (7 : Nat) "VersionSolver$Step" "by" "I") ∈ lw_all := lw_g (lw_at lw_m4 173 rfl) rfl
theorem q985 : (Jvm.Cond.fieldLink "VersionSolver$Step" (13 : Nat) "VersionSolver$Step" "pack" "I") ∈ lw_all := lw_g (lw_at lw_m4 176 rfl) rfl
theorem q988 : (Jvm.Cond.fieldLink "VersionSolver$Step" (16 : Nat) "VersionSolver$Step" "out" "I") ∈ lw_all := lw_g (lw_at lw_m4 179 rfl) rfl
theorem q991 : (Jvm.Cond.fieldLink "VersionSolver$Step" (19 : Nat) "VersionSolver$Step" "rests" "J") ∈ lw_all := lw_g (lw_at lw_m4 182 rfl) rfl
theorem q994 : (Jvm.Cond.laysFinal "VersionSolver$Step" "VersionSolver$Step" "by" "I") ∈ lw_all := lw_g (lw_at lw_m4 185 rfl) rfl
theorem q995 : (Jvm.Cond.soleField "VersionSolver$Step" "by") ∈ lw_all := lw_g (lw_at lw_m4 186 rfl) rfl
theorem q996 : (Jvm.Cond.laysFinal "VersionSolver$Step" "VersionSolver$Step" "pack" "I") ∈ lw_all := lw_g (lw_at lw_m4 187 rfl) rfl
theorem q997 : (Jvm.Cond.soleField "VersionSolver$Step" "pack") ∈ lw_all := lw_g (lw_at lw_m4 188 rfl) rfl
theorem q998 : (Jvm.Cond.laysFinal "VersionSolver$Step" "VersionSolver$Step" "out" "I") ∈ lw_all := lw_g (lw_at lw_m4 189 rfl) rfl
theorem q999 : (Jvm.Cond.soleField "VersionSolver$Step" "out") ∈ lw_all := lw_g (lw_at lw_m4 190 rfl) rfl
theorem q1000 : (Jvm.Cond.laysFinal "VersionSolver$Step" "VersionSolver$Step" "rests" "J") ∈ lw_all := lw_g (lw_at lw_m4 191 rfl) rfl
theorem q1001 : (Jvm.Cond.soleField "VersionSolver$Step" "rests") ∈ lw_all := lw_g (lw_at lw_m4 192 rfl) rfl
theorem q1002 : (Jvm.Cond.superclass "VersionSolver$Step" "java/lang/Object") ∈ lw_all := lw_g (lw_at lw_m4 193 rfl) rfl
theorem q2515 : (Jvm.Cond.castable "VersionSolver$Step" "java/lang/Object") ∈ lw_tbl := lw_at lw_m11 26 rfl
theorem in_X11 : ∀ w ∈ wsX110, w ∈ lw_all := lw_in wsX110 [994, 996, 998, 1000] (by decide +kernel) (by decide +kernel)
/-! VersionSolver$Assumption -/
set_option maxRecDepth 100000
def RX12 : String := "VersionSolver$Assumption"
def TX12 : u_T := fun k => match k with
  | 0 => ("VersionSolver$Assumption", "pack", "I", true)
  | _ => ("VersionSolver$Assumption", "state", "I", true)
def tyX12 : Nat → FieldType := fun k => match k with
  | 0 => .int
  | _ => .int
abbrev wsX120 : List Cond := u_ws RX12 TX12 2
theorem nmX12 : ∀ a, a < 2 → ∀ b, b < 2 → a ≠ b → (TX12 a).2.1 ≠ (TX12 b).2.1 := by decide +kernel
theorem tyX12_ok : ∀ k, k < 2 → parseFieldDescriptor (TX12 k).2.2.1 = some (tyX12 k) := by decide +kernel
abbrev cX12_init : ByteArray := prog_2_method_1_code
def yX12_init : MethodName := ⟨RX12, "<init>", "(II)V"⟩
def dkwX12_init_0 : List UInt8 := [42, 183, 0, 1, 42, 27, 181, 0, 7, 42, 28, 181, 0, 13, 177]
abbrev dktX12_init_0 : List UInt8 := dkwX12_init_0 ++ []
theorem dksX12_init_0 : cX12_init.data.toList.drop 0 = dktX12_init_0 := by decide +kernel
theorem dX12_init_0 : decode cX12_init 0 = .ok (.aload_n 0, 1) := dk_42 (dk_at dksX12_init_0 0 rfl rfl)
theorem dX12_init_1 : decode cX12_init 1 = .ok (.invokespecial 1, 3) := dk_183 0 1 (dk_at dksX12_init_0 1 rfl rfl)
theorem dX12_init_4 : decode cX12_init 4 = .ok (.aload_n 0, 1) := dk_42 (dk_at dksX12_init_0 4 rfl rfl)
theorem dX12_init_5 : decode cX12_init 5 = .ok (.iload_n 1, 1) := dk_27 (dk_at dksX12_init_0 5 rfl rfl)
theorem dX12_init_6 : decode cX12_init 6 = .ok (.putfield 7, 3) := dk_181 0 7 (dk_at dksX12_init_0 6 rfl rfl)
theorem dX12_init_9 : decode cX12_init 9 = .ok (.aload_n 0, 1) := dk_42 (dk_at dksX12_init_0 9 rfl rfl)
theorem dX12_init_10 : decode cX12_init 10 = .ok (.iload_n 2, 1) := dk_28 (dk_at dksX12_init_0 10 rfl rfl)
theorem dX12_init_11 : decode cX12_init 11 = .ok (.putfield 13, 3) := dk_181 0 13 (dk_at dksX12_init_0 11 rfl rfl)
theorem dX12_init_14 : decode cX12_init 14 = .ok (.return_, 1) := dk_177 (dk_at dksX12_init_0 14 rfl rfl)
theorem q120 : (Jvm.Cond.initialized "VersionSolver$Assumption") ∈ lw_all := lw_g (lw_at lw_m1 31 rfl) rfl
theorem q406 : (Jvm.Cond.selects "VersionSolver$Assumption" ({ cls := "java/lang/Object", name := "getClass", desc := "()Ljava/lang/Class;" } : Jvm.MethodName) ({ cls := "java/lang/Object", name := "getClass", desc := "()Ljava/lang/Class;" } : Jvm.MethodName)) ∈ lw_all := lw_g (lw_at lw_m2 77 rfl) rfl
theorem q1107 : (Jvm.Cond.instantiable "VersionSolver$Assumption" (2 : Nat)) ∈ lw_all := lw_g (lw_at lw_m5 58 rfl) rfl
theorem q1109 : (Jvm.Cond.instanceMethod ({ cls := "VersionSolver$Assumption", name := "<init>", desc := "(II)V" } : Jvm.MethodName)) ∈ lw_all := lw_g (lw_at lw_m5 60 rfl) rfl
theorem q1110 : (Jvm.Cond.code ({ cls := "VersionSolver$Assumption", name := "<init>", desc := "(II)V" } : Jvm.MethodName) prog_2_method_1_code (3 : Nat) (Option.none : Option Jvm.ClassFile.FieldType)) ∈ lw_all := lw_g (lw_at lw_m5 61 rfl) rfl
theorem q1111 : (Jvm.Cond.methodLink "VersionSolver$Assumption" (1 : Nat) ({ cls := "java/lang/Object", name := "<init>", desc := "()V" } : Jvm.MethodName)) ∈ lw_all := lw_g (lw_at lw_m5 62 rfl) rfl
theorem q1112 : (Jvm.Cond.fieldLink "VersionSolver$Assumption" (7 : Nat) "VersionSolver$Assumption" "pack" "I") ∈ lw_all := lw_g (lw_at lw_m5 63 rfl) rfl
theorem q1118 : (Jvm.Cond.fieldLink "VersionSolver$Assumption" (13 : Nat) "VersionSolver$Assumption" "state" "I") ∈ lw_all := lw_g (lw_at lw_m5 69 rfl) rfl
theorem q1123 : (Jvm.Cond.laysFinal "VersionSolver$Assumption" "VersionSolver$Assumption" "pack" "I") ∈ lw_all := lw_g (lw_at lw_m5 74 rfl) rfl
theorem q1124 : (Jvm.Cond.soleField "VersionSolver$Assumption" "pack") ∈ lw_all := lw_g (lw_at lw_m5 75 rfl) rfl
theorem q1125 : (Jvm.Cond.laysFinal "VersionSolver$Assumption" "VersionSolver$Assumption" "state" "I") ∈ lw_all := lw_g (lw_at lw_m5 76 rfl) rfl
theorem q1126 : (Jvm.Cond.soleField "VersionSolver$Assumption" "state") ∈ lw_all := lw_g (lw_at lw_m5 77 rfl) rfl
theorem q1127 : (Jvm.Cond.superclass "VersionSolver$Assumption" "java/lang/Object") ∈ lw_all := lw_g (lw_at lw_m5 78 rfl) rfl
theorem q2516 : (Jvm.Cond.castable "VersionSolver$Assumption" "java/lang/Object") ∈ lw_tbl := lw_at lw_m11 27 rfl
theorem in_X12 : ∀ w ∈ wsX120, w ∈ lw_all := lw_in wsX120 [1123, 1125] (by decide +kernel) (by decide +kernel)
/-! VersionSolver$Learned -/
set_option maxRecDepth 100000
def RX13 : String := "VersionSolver$Learned"
def TX13 : u_T := fun k => match k with
  | 0 => ("VersionSolver$Rule", "pack", "I", true)
  | 1 => ("VersionSolver$Rule", "version", "I", true)
  | 2 => ("VersionSolver$Rule", "other", "I", true)
  | 3 => ("VersionSolver$Rule", "range", "I", true)
  | _ => ("VersionSolver$Learned", "states", "[I", true)
def tyX13 : Nat → FieldType := fun k => match k with
  | 0 => .int
  | 1 => .int
  | 2 => .int
  | 3 => .int
  | _ => .array .int
abbrev wsX130 : List Cond := u_ws RX13 TX13 5
theorem nmX13 : ∀ a, a < 5 → ∀ b, b < 5 → a ≠ b → (TX13 a).2.1 ≠ (TX13 b).2.1 := by decide +kernel
theorem tyX13_ok : ∀ k, k < 5 → parseFieldDescriptor (TX13 k).2.2.1 = some (tyX13 k) := by decide +kernel
abbrev cX13_what : ByteArray := prog_10_method_6_code
def yX13_what : MethodName := ⟨RX13, "what", "(I)I"⟩
def dkwX13_what_0 : List UInt8 := [27, 8, 160, 0, 13, 42, 182, 0, 20, 184, 0, 24, 167, 0, 8, 42, 27, 183, 0, 28, 172]
abbrev dktX13_what_0 : List UInt8 := dkwX13_what_0 ++ []
theorem dksX13_what_0 : cX13_what.data.toList.drop 0 = dktX13_what_0 := by decide +kernel
theorem dX13_what_0 : decode cX13_what 0 = .ok (.iload_n 1, 1) := dk_27 (dk_at dksX13_what_0 0 rfl rfl)
theorem dX13_what_1 : decode cX13_what 1 = .ok (.iconst 5, 1) := dk_8 (dk_at dksX13_what_0 1 rfl rfl)
theorem dX13_what_2 : decode cX13_what 2 = .ok (.if_icmp .ne 13, 3) := dk_160 0 13 (dk_at dksX13_what_0 2 rfl rfl)
theorem dX13_what_5 : decode cX13_what 5 = .ok (.aload_n 0, 1) := dk_42 (dk_at dksX13_what_0 5 rfl rfl)
theorem dX13_what_6 : decode cX13_what 6 = .ok (.invokevirtual 20, 3) := dk_182 0 20 (dk_at dksX13_what_0 6 rfl rfl)
theorem dX13_what_9 : decode cX13_what 9 = .ok (.invokestatic 24, 3) := dk_184 0 24 (dk_at dksX13_what_0 9 rfl rfl)
theorem dX13_what_12 : decode cX13_what 12 = .ok (.goto 8, 3) := dk_167 0 8 (dk_at dksX13_what_0 12 rfl rfl)
theorem dX13_what_15 : decode cX13_what 15 = .ok (.aload_n 0, 1) := dk_42 (dk_at dksX13_what_0 15 rfl rfl)
theorem dX13_what_16 : decode cX13_what 16 = .ok (.iload_n 1, 1) := dk_27 (dk_at dksX13_what_0 16 rfl rfl)
theorem dX13_what_17 : decode cX13_what 17 = .ok (.invokespecial 28, 3) := dk_183 0 28 (dk_at dksX13_what_0 17 rfl rfl)
theorem dX13_what_20 : decode cX13_what 20 = .ok (.ireturn, 1) := dk_172 (dk_at dksX13_what_0 20 rfl rfl)
abbrev cX13_packs : ByteArray := prog_10_method_5_code
def yX13_packs : MethodName := ⟨RX13, "packs", "()I"⟩
def dkwX13_packs_1 : List UInt8 := [167, 0, 6, 4, 28, 120, 128, 60, 132, 2, 1, 167, 255, 226, 27, 172]
abbrev dktX13_packs_1 : List UInt8 := dkwX13_packs_1 ++ []
def dkwX13_packs_0 : List UInt8 := [3, 60, 3, 61, 28, 16, 6, 162, 0, 30, 27, 42, 180, 0, 15, 28, 46, 16, 251, 160, 0, 7, 3]
abbrev dktX13_packs_0 : List UInt8 := dkwX13_packs_0 ++ dktX13_packs_1
theorem dksX13_packs_0 : cX13_packs.data.toList.drop 0 = dktX13_packs_0 := by decide +kernel
theorem dksX13_packs_1 : cX13_packs.data.toList.drop 23 = dktX13_packs_1 := dk_seg dksX13_packs_0 23 rfl rfl
theorem dX13_packs_0 : decode cX13_packs 0 = .ok (.iconst 0, 1) := dk_3 (dk_at dksX13_packs_0 0 rfl rfl)
theorem dX13_packs_1 : decode cX13_packs 1 = .ok (.istore_n 1, 1) := dk_60 (dk_at dksX13_packs_0 1 rfl rfl)
theorem dX13_packs_2 : decode cX13_packs 2 = .ok (.iconst 0, 1) := dk_3 (dk_at dksX13_packs_0 2 rfl rfl)
theorem dX13_packs_3 : decode cX13_packs 3 = .ok (.istore_n 2, 1) := dk_61 (dk_at dksX13_packs_0 3 rfl rfl)
theorem dX13_packs_4 : decode cX13_packs 4 = .ok (.iload_n 2, 1) := dk_28 (dk_at dksX13_packs_0 4 rfl rfl)
theorem dX13_packs_5 : decode cX13_packs 5 = .ok (.bipush 6, 2) := dk_16 6 (dk_at dksX13_packs_0 5 rfl rfl)
theorem dX13_packs_7 : decode cX13_packs 7 = .ok (.if_icmp .ge 30, 3) := dk_162 0 30 (dk_at dksX13_packs_0 7 rfl rfl)
theorem dX13_packs_10 : decode cX13_packs 10 = .ok (.iload_n 1, 1) := dk_27 (dk_at dksX13_packs_0 10 rfl rfl)
theorem dX13_packs_11 : decode cX13_packs 11 = .ok (.aload_n 0, 1) := dk_42 (dk_at dksX13_packs_0 11 rfl rfl)
theorem dX13_packs_12 : decode cX13_packs 12 = .ok (.getfield 15, 3) := dk_180 0 15 (dk_at dksX13_packs_0 12 rfl rfl)
theorem dX13_packs_15 : decode cX13_packs 15 = .ok (.iload_n 2, 1) := dk_28 (dk_at dksX13_packs_0 15 rfl rfl)
theorem dX13_packs_16 : decode cX13_packs 16 = .ok (.iaload, 1) := dk_46 (dk_at dksX13_packs_0 16 rfl rfl)
theorem dX13_packs_17 : decode cX13_packs 17 = .ok (.bipush (-5), 2) := dk_16 251 (dk_at dksX13_packs_0 17 rfl rfl)
theorem dX13_packs_19 : decode cX13_packs 19 = .ok (.if_icmp .ne 7, 3) := dk_160 0 7 (dk_at dksX13_packs_0 19 rfl rfl)
theorem dX13_packs_22 : decode cX13_packs 22 = .ok (.iconst 0, 1) := dk_3 (dk_at dksX13_packs_0 22 rfl rfl)
theorem dX13_packs_23 : decode cX13_packs 23 = .ok (.goto 6, 3) := dk_167 0 6 (dk_at dksX13_packs_1 0 rfl rfl)
theorem dX13_packs_26 : decode cX13_packs 26 = .ok (.iconst 1, 1) := dk_4 (dk_at dksX13_packs_1 3 rfl rfl)
theorem dX13_packs_27 : decode cX13_packs 27 = .ok (.iload_n 2, 1) := dk_28 (dk_at dksX13_packs_1 4 rfl rfl)
theorem dX13_packs_28 : decode cX13_packs 28 = .ok (.ishl, 1) := dk_120 (dk_at dksX13_packs_1 5 rfl rfl)
theorem dX13_packs_29 : decode cX13_packs 29 = .ok (.ior, 1) := dk_128 (dk_at dksX13_packs_1 6 rfl rfl)
theorem dX13_packs_30 : decode cX13_packs 30 = .ok (.istore_n 1, 1) := dk_60 (dk_at dksX13_packs_1 7 rfl rfl)
theorem dX13_packs_31 : decode cX13_packs 31 = .ok (.iinc 2 1, 3) := dk_132 2 1 (dk_at dksX13_packs_1 8 rfl rfl)
theorem dX13_packs_34 : decode cX13_packs 34 = .ok (.goto (-30), 3) := dk_167 255 226 (dk_at dksX13_packs_1 11 rfl rfl)
theorem dX13_packs_37 : decode cX13_packs 37 = .ok (.iload_n 1, 1) := dk_27 (dk_at dksX13_packs_1 14 rfl rfl)
theorem dX13_packs_38 : decode cX13_packs 38 = .ok (.ireturn, 1) := dk_172 (dk_at dksX13_packs_1 15 rfl rfl)
abbrev cX13_kind : ByteArray := prog_10_method_2_code
def yX13_kind : MethodName := ⟨RX13, "kind", "()I"⟩
theorem dX13_kind_0 : decode cX13_kind 0 = .ok (.iconst 3, 1) := by decide +kernel
theorem dX13_kind_1 : decode cX13_kind 1 = .ok (.ireturn, 1) := by decide +kernel
abbrev cX13_stateOf : ByteArray := prog_10_method_7_code
def yX13_stateOf : MethodName := ⟨RX13, "stateOf", "(I)I"⟩
def dkwX13_stateOf_0 : List UInt8 := [42, 180, 0, 15, 27, 46, 172]
abbrev dktX13_stateOf_0 : List UInt8 := dkwX13_stateOf_0 ++ []
theorem dksX13_stateOf_0 : cX13_stateOf.data.toList.drop 0 = dktX13_stateOf_0 := by decide +kernel
theorem dX13_stateOf_0 : decode cX13_stateOf 0 = .ok (.aload_n 0, 1) := dk_42 (dk_at dksX13_stateOf_0 0 rfl rfl)
theorem dX13_stateOf_1 : decode cX13_stateOf 1 = .ok (.getfield 15, 3) := dk_180 0 15 (dk_at dksX13_stateOf_0 1 rfl rfl)
theorem dX13_stateOf_4 : decode cX13_stateOf 4 = .ok (.iload_n 1, 1) := dk_27 (dk_at dksX13_stateOf_0 4 rfl rfl)
theorem dX13_stateOf_5 : decode cX13_stateOf 5 = .ok (.iaload, 1) := dk_46 (dk_at dksX13_stateOf_0 5 rfl rfl)
theorem dX13_stateOf_6 : decode cX13_stateOf 6 = .ok (.ireturn, 1) := dk_172 (dk_at dksX13_stateOf_0 6 rfl rfl)
abbrev cX13_ranged : ByteArray := prog_10_method_3_code
def yX13_ranged : MethodName := ⟨RX13, "ranged", "()I"⟩
theorem dX13_ranged_0 : decode cX13_ranged 0 = .ok (.iconst (-1), 1) := by decide +kernel
theorem dX13_ranged_1 : decode cX13_ranged 1 = .ok (.ireturn, 1) := by decide +kernel
abbrev cX13_conditions : ByteArray := prog_10_method_8_code
def yX13_conditions : MethodName := ⟨RX13, "conditions", "(I)I"⟩
def dkwX13_conditions_0 : List UInt8 := [42, 182, 0, 20, 4, 27, 120, 2, 130, 126, 172]
abbrev dktX13_conditions_0 : List UInt8 := dkwX13_conditions_0 ++ []
theorem dksX13_conditions_0 : cX13_conditions.data.toList.drop 0 = dktX13_conditions_0 := by decide +kernel
theorem dX13_conditions_0 : decode cX13_conditions 0 = .ok (.aload_n 0, 1) := dk_42 (dk_at dksX13_conditions_0 0 rfl rfl)
theorem dX13_conditions_1 : decode cX13_conditions 1 = .ok (.invokevirtual 20, 3) := dk_182 0 20 (dk_at dksX13_conditions_0 1 rfl rfl)
theorem dX13_conditions_4 : decode cX13_conditions 4 = .ok (.iconst 1, 1) := dk_4 (dk_at dksX13_conditions_0 4 rfl rfl)
theorem dX13_conditions_5 : decode cX13_conditions 5 = .ok (.iload_n 1, 1) := dk_27 (dk_at dksX13_conditions_0 5 rfl rfl)
theorem dX13_conditions_6 : decode cX13_conditions 6 = .ok (.ishl, 1) := dk_120 (dk_at dksX13_conditions_0 6 rfl rfl)
theorem dX13_conditions_7 : decode cX13_conditions 7 = .ok (.iconst (-1), 1) := dk_2 (dk_at dksX13_conditions_0 7 rfl rfl)
theorem dX13_conditions_8 : decode cX13_conditions 8 = .ok (.ixor, 1) := dk_130 (dk_at dksX13_conditions_0 8 rfl rfl)
theorem dX13_conditions_9 : decode cX13_conditions 9 = .ok (.iand, 1) := dk_126 (dk_at dksX13_conditions_0 9 rfl rfl)
theorem dX13_conditions_10 : decode cX13_conditions 10 = .ok (.ireturn, 1) := dk_172 (dk_at dksX13_conditions_0 10 rfl rfl)
abbrev cX13_narrows : ByteArray := prog_10_method_10_code
def yX13_narrows : MethodName := ⟨RX13, "narrows", "(LVersionSolver$Trace;I)V"⟩
def dkwX13_narrows_2 : List UInt8 := [177, 132, 3, 1, 167, 255, 206, 177]
abbrev dktX13_narrows_2 : List UInt8 := dkwX13_narrows_2 ++ []
def dkwX13_narrows_1 : List UInt8 := [3, 43, 180, 0, 31, 29, 182, 0, 36, 54, 4, 21, 4, 153, 0, 12, 43, 28, 29, 21, 4, 182, 0, 40]
abbrev dktX13_narrows_1 : List UInt8 := dkwX13_narrows_1 ++ dktX13_narrows_2
def dkwX13_narrows_0 : List UInt8 := [3, 62, 29, 16, 6, 162, 0, 50, 42, 180, 0, 15, 29, 46, 16, 251, 160, 0, 7, 3, 167, 0, 13, 42]
abbrev dktX13_narrows_0 : List UInt8 := dkwX13_narrows_0 ++ dktX13_narrows_1
theorem dksX13_narrows_0 : cX13_narrows.data.toList.drop 0 = dktX13_narrows_0 := by decide +kernel
theorem dksX13_narrows_1 : cX13_narrows.data.toList.drop 24 = dktX13_narrows_1 := dk_seg dksX13_narrows_0 24 rfl rfl
theorem dksX13_narrows_2 : cX13_narrows.data.toList.drop 48 = dktX13_narrows_2 := dk_seg dksX13_narrows_1 24 rfl rfl
theorem dX13_narrows_0 : decode cX13_narrows 0 = .ok (.iconst 0, 1) := dk_3 (dk_at dksX13_narrows_0 0 rfl rfl)
theorem dX13_narrows_1 : decode cX13_narrows 1 = .ok (.istore_n 3, 1) := dk_62 (dk_at dksX13_narrows_0 1 rfl rfl)
theorem dX13_narrows_2 : decode cX13_narrows 2 = .ok (.iload_n 3, 1) := dk_29 (dk_at dksX13_narrows_0 2 rfl rfl)
theorem dX13_narrows_3 : decode cX13_narrows 3 = .ok (.bipush 6, 2) := dk_16 6 (dk_at dksX13_narrows_0 3 rfl rfl)
theorem dX13_narrows_5 : decode cX13_narrows 5 = .ok (.if_icmp .ge 50, 3) := dk_162 0 50 (dk_at dksX13_narrows_0 5 rfl rfl)
theorem dX13_narrows_8 : decode cX13_narrows 8 = .ok (.aload_n 0, 1) := dk_42 (dk_at dksX13_narrows_0 8 rfl rfl)
theorem dX13_narrows_9 : decode cX13_narrows 9 = .ok (.getfield 15, 3) := dk_180 0 15 (dk_at dksX13_narrows_0 9 rfl rfl)
theorem dX13_narrows_12 : decode cX13_narrows 12 = .ok (.iload_n 3, 1) := dk_29 (dk_at dksX13_narrows_0 12 rfl rfl)
theorem dX13_narrows_13 : decode cX13_narrows 13 = .ok (.iaload, 1) := dk_46 (dk_at dksX13_narrows_0 13 rfl rfl)
theorem dX13_narrows_14 : decode cX13_narrows 14 = .ok (.bipush (-5), 2) := dk_16 251 (dk_at dksX13_narrows_0 14 rfl rfl)
theorem dX13_narrows_16 : decode cX13_narrows 16 = .ok (.if_icmp .ne 7, 3) := dk_160 0 7 (dk_at dksX13_narrows_0 16 rfl rfl)
theorem dX13_narrows_19 : decode cX13_narrows 19 = .ok (.iconst 0, 1) := dk_3 (dk_at dksX13_narrows_0 19 rfl rfl)
theorem dX13_narrows_20 : decode cX13_narrows 20 = .ok (.goto 13, 3) := dk_167 0 13 (dk_at dksX13_narrows_0 20 rfl rfl)
theorem dX13_narrows_23 : decode cX13_narrows 23 = .ok (.aload_n 0, 1) := dk_42 (dk_at dksX13_narrows_0 23 rfl rfl)
theorem dX13_narrows_24 : decode cX13_narrows 24 = .ok (.iconst 0, 1) := dk_3 (dk_at dksX13_narrows_1 0 rfl rfl)
theorem dX13_narrows_25 : decode cX13_narrows 25 = .ok (.aload_n 1, 1) := dk_43 (dk_at dksX13_narrows_1 1 rfl rfl)
theorem dX13_narrows_26 : decode cX13_narrows 26 = .ok (.getfield 31, 3) := dk_180 0 31 (dk_at dksX13_narrows_1 2 rfl rfl)
theorem dX13_narrows_29 : decode cX13_narrows 29 = .ok (.iload_n 3, 1) := dk_29 (dk_at dksX13_narrows_1 5 rfl rfl)
theorem dX13_narrows_30 : decode cX13_narrows 30 = .ok (.invokevirtual 36, 3) := dk_182 0 36 (dk_at dksX13_narrows_1 6 rfl rfl)
theorem dX13_narrows_33 : decode cX13_narrows 33 = .ok (.istore 4, 2) := dk_54 4 (dk_at dksX13_narrows_1 9 rfl rfl)
theorem dX13_narrows_35 : decode cX13_narrows 35 = .ok (.iload 4, 2) := dk_21 4 (dk_at dksX13_narrows_1 11 rfl rfl)
theorem dX13_narrows_37 : decode cX13_narrows 37 = .ok (.ifCond .eq 12, 3) := dk_153 0 12 (dk_at dksX13_narrows_1 13 rfl rfl)
theorem dX13_narrows_40 : decode cX13_narrows 40 = .ok (.aload_n 1, 1) := dk_43 (dk_at dksX13_narrows_1 16 rfl rfl)
theorem dX13_narrows_41 : decode cX13_narrows 41 = .ok (.iload_n 2, 1) := dk_28 (dk_at dksX13_narrows_1 17 rfl rfl)
theorem dX13_narrows_42 : decode cX13_narrows 42 = .ok (.iload_n 3, 1) := dk_29 (dk_at dksX13_narrows_1 18 rfl rfl)
theorem dX13_narrows_43 : decode cX13_narrows 43 = .ok (.iload 4, 2) := dk_21 4 (dk_at dksX13_narrows_1 19 rfl rfl)
theorem dX13_narrows_45 : decode cX13_narrows 45 = .ok (.invokevirtual 40, 3) := dk_182 0 40 (dk_at dksX13_narrows_1 21 rfl rfl)
theorem dX13_narrows_48 : decode cX13_narrows 48 = .ok (.return_, 1) := dk_177 (dk_at dksX13_narrows_2 0 rfl rfl)
theorem dX13_narrows_49 : decode cX13_narrows 49 = .ok (.iinc 3 1, 3) := dk_132 3 1 (dk_at dksX13_narrows_2 1 rfl rfl)
theorem dX13_narrows_52 : decode cX13_narrows 52 = .ok (.goto (-50), 3) := dk_167 255 206 (dk_at dksX13_narrows_2 4 rfl rfl)
theorem dX13_narrows_55 : decode cX13_narrows 55 = .ok (.return_, 1) := dk_177 (dk_at dksX13_narrows_2 7 rfl rfl)
abbrev cX13_impossible : ByteArray := prog_10_method_9_code
def yX13_impossible : MethodName := ⟨RX13, "impossible", "(I[II)I"⟩
def dkwX13_impossible_2 : List UInt8 := [132, 4, 1, 167, 255, 210, 4, 42, 180, 0, 15, 29, 46, 120, 172]
abbrev dktX13_impossible_2 : List UInt8 := dkwX13_impossible_2 ++ []
def dkwX13_impossible_1 : List UInt8 := [16, 251, 159, 0, 21, 44, 21, 4, 46, 4, 42, 180, 0, 15, 21, 4, 46, 120, 159, 0, 5, 3, 172]
abbrev dktX13_impossible_1 : List UInt8 := dkwX13_impossible_1 ++ dktX13_impossible_2
def dkwX13_impossible_0 : List UInt8 := [3, 54, 4, 21, 4, 16, 6, 162, 0, 45, 21, 4, 29, 159, 0, 33, 42, 180, 0, 15, 21, 4, 46]
abbrev dktX13_impossible_0 : List UInt8 := dkwX13_impossible_0 ++ dktX13_impossible_1
theorem dksX13_impossible_0 : cX13_impossible.data.toList.drop 0 = dktX13_impossible_0 := by decide +kernel
theorem dksX13_impossible_1 : cX13_impossible.data.toList.drop 23 = dktX13_impossible_1 := dk_seg dksX13_impossible_0 23 rfl rfl
theorem dksX13_impossible_2 : cX13_impossible.data.toList.drop 46 = dktX13_impossible_2 := dk_seg dksX13_impossible_1 23 rfl rfl
theorem dX13_impossible_0 : decode cX13_impossible 0 = .ok (.iconst 0, 1) := dk_3 (dk_at dksX13_impossible_0 0 rfl rfl)
theorem dX13_impossible_1 : decode cX13_impossible 1 = .ok (.istore 4, 2) := dk_54 4 (dk_at dksX13_impossible_0 1 rfl rfl)
theorem dX13_impossible_3 : decode cX13_impossible 3 = .ok (.iload 4, 2) := dk_21 4 (dk_at dksX13_impossible_0 3 rfl rfl)
theorem dX13_impossible_5 : decode cX13_impossible 5 = .ok (.bipush 6, 2) := dk_16 6 (dk_at dksX13_impossible_0 5 rfl rfl)
theorem dX13_impossible_7 : decode cX13_impossible 7 = .ok (.if_icmp .ge 45, 3) := dk_162 0 45 (dk_at dksX13_impossible_0 7 rfl rfl)
theorem dX13_impossible_10 : decode cX13_impossible 10 = .ok (.iload 4, 2) := dk_21 4 (dk_at dksX13_impossible_0 10 rfl rfl)
theorem dX13_impossible_12 : decode cX13_impossible 12 = .ok (.iload_n 3, 1) := dk_29 (dk_at dksX13_impossible_0 12 rfl rfl)
theorem dX13_impossible_13 : decode cX13_impossible 13 = .ok (.if_icmp .eq 33, 3) := dk_159 0 33 (dk_at dksX13_impossible_0 13 rfl rfl)
theorem dX13_impossible_16 : decode cX13_impossible 16 = .ok (.aload_n 0, 1) := dk_42 (dk_at dksX13_impossible_0 16 rfl rfl)
theorem dX13_impossible_17 : decode cX13_impossible 17 = .ok (.getfield 15, 3) := dk_180 0 15 (dk_at dksX13_impossible_0 17 rfl rfl)
theorem dX13_impossible_20 : decode cX13_impossible 20 = .ok (.iload 4, 2) := dk_21 4 (dk_at dksX13_impossible_0 20 rfl rfl)
theorem dX13_impossible_22 : decode cX13_impossible 22 = .ok (.iaload, 1) := dk_46 (dk_at dksX13_impossible_0 22 rfl rfl)
theorem dX13_impossible_23 : decode cX13_impossible 23 = .ok (.bipush (-5), 2) := dk_16 251 (dk_at dksX13_impossible_1 0 rfl rfl)
theorem dX13_impossible_25 : decode cX13_impossible 25 = .ok (.if_icmp .eq 21, 3) := dk_159 0 21 (dk_at dksX13_impossible_1 2 rfl rfl)
theorem dX13_impossible_28 : decode cX13_impossible 28 = .ok (.aload_n 2, 1) := dk_44 (dk_at dksX13_impossible_1 5 rfl rfl)
theorem dX13_impossible_29 : decode cX13_impossible 29 = .ok (.iload 4, 2) := dk_21 4 (dk_at dksX13_impossible_1 6 rfl rfl)
theorem dX13_impossible_31 : decode cX13_impossible 31 = .ok (.iaload, 1) := dk_46 (dk_at dksX13_impossible_1 8 rfl rfl)
theorem dX13_impossible_32 : decode cX13_impossible 32 = .ok (.iconst 1, 1) := dk_4 (dk_at dksX13_impossible_1 9 rfl rfl)
theorem dX13_impossible_33 : decode cX13_impossible 33 = .ok (.aload_n 0, 1) := dk_42 (dk_at dksX13_impossible_1 10 rfl rfl)
theorem dX13_impossible_34 : decode cX13_impossible 34 = .ok (.getfield 15, 3) := dk_180 0 15 (dk_at dksX13_impossible_1 11 rfl rfl)
theorem dX13_impossible_37 : decode cX13_impossible 37 = .ok (.iload 4, 2) := dk_21 4 (dk_at dksX13_impossible_1 14 rfl rfl)
theorem dX13_impossible_39 : decode cX13_impossible 39 = .ok (.iaload, 1) := dk_46 (dk_at dksX13_impossible_1 16 rfl rfl)
theorem dX13_impossible_40 : decode cX13_impossible 40 = .ok (.ishl, 1) := dk_120 (dk_at dksX13_impossible_1 17 rfl rfl)
theorem dX13_impossible_41 : decode cX13_impossible 41 = .ok (.if_icmp .eq 5, 3) := dk_159 0 5 (dk_at dksX13_impossible_1 18 rfl rfl)
theorem dX13_impossible_44 : decode cX13_impossible 44 = .ok (.iconst 0, 1) := dk_3 (dk_at dksX13_impossible_1 21 rfl rfl)
theorem dX13_impossible_45 : decode cX13_impossible 45 = .ok (.ireturn, 1) := dk_172 (dk_at dksX13_impossible_1 22 rfl rfl)
theorem dX13_impossible_46 : decode cX13_impossible 46 = .ok (.iinc 4 1, 3) := dk_132 4 1 (dk_at dksX13_impossible_2 0 rfl rfl)
theorem dX13_impossible_49 : decode cX13_impossible 49 = .ok (.goto (-46), 3) := dk_167 255 210 (dk_at dksX13_impossible_2 3 rfl rfl)
theorem dX13_impossible_52 : decode cX13_impossible 52 = .ok (.iconst 1, 1) := dk_4 (dk_at dksX13_impossible_2 6 rfl rfl)
theorem dX13_impossible_53 : decode cX13_impossible 53 = .ok (.aload_n 0, 1) := dk_42 (dk_at dksX13_impossible_2 7 rfl rfl)
theorem dX13_impossible_54 : decode cX13_impossible 54 = .ok (.getfield 15, 3) := dk_180 0 15 (dk_at dksX13_impossible_2 8 rfl rfl)
theorem dX13_impossible_57 : decode cX13_impossible 57 = .ok (.iload_n 3, 1) := dk_29 (dk_at dksX13_impossible_2 11 rfl rfl)
theorem dX13_impossible_58 : decode cX13_impossible 58 = .ok (.iaload, 1) := dk_46 (dk_at dksX13_impossible_2 12 rfl rfl)
theorem dX13_impossible_59 : decode cX13_impossible 59 = .ok (.ishl, 1) := dk_120 (dk_at dksX13_impossible_2 13 rfl rfl)
theorem dX13_impossible_60 : decode cX13_impossible 60 = .ok (.ireturn, 1) := dk_172 (dk_at dksX13_impossible_2 14 rfl rfl)
abbrev cX13_init : ByteArray := prog_10_method_1_code
def yX13_init : MethodName := ⟨RX13, "<init>", "([I)V"⟩
def dkwX13_init_1 : List UInt8 := [183, 0, 3, 42, 43, 182, 0, 9, 192, 0, 10, 181, 0, 15, 177]
abbrev dktX13_init_1 : List UInt8 := dkwX13_init_1 ++ []
def dkwX13_init_0 : List UInt8 := [42, 7, 188, 10, 89, 3, 16, 251, 79, 89, 4, 16, 251, 79, 89, 5, 16, 251, 79, 89, 6, 16, 251, 79]
abbrev dktX13_init_0 : List UInt8 := dkwX13_init_0 ++ dktX13_init_1
theorem dksX13_init_0 : cX13_init.data.toList.drop 0 = dktX13_init_0 := by decide +kernel
theorem dksX13_init_1 : cX13_init.data.toList.drop 24 = dktX13_init_1 := dk_seg dksX13_init_0 24 rfl rfl
theorem dX13_init_0 : decode cX13_init 0 = .ok (.aload_n 0, 1) := dk_42 (dk_at dksX13_init_0 0 rfl rfl)
theorem dX13_init_1 : decode cX13_init 1 = .ok (.iconst 4, 1) := dk_7 (dk_at dksX13_init_0 1 rfl rfl)
theorem dX13_init_2 : decode cX13_init 2 = .ok (.newarray .int, 2) := dk_188_10 (dk_at dksX13_init_0 2 rfl rfl)
theorem dX13_init_4 : decode cX13_init 4 = .ok (.dup, 1) := dk_89 (dk_at dksX13_init_0 4 rfl rfl)
theorem dX13_init_5 : decode cX13_init 5 = .ok (.iconst 0, 1) := dk_3 (dk_at dksX13_init_0 5 rfl rfl)
theorem dX13_init_6 : decode cX13_init 6 = .ok (.bipush (-5), 2) := dk_16 251 (dk_at dksX13_init_0 6 rfl rfl)
theorem dX13_init_8 : decode cX13_init 8 = .ok (.iastore, 1) := dk_79 (dk_at dksX13_init_0 8 rfl rfl)
theorem dX13_init_9 : decode cX13_init 9 = .ok (.dup, 1) := dk_89 (dk_at dksX13_init_0 9 rfl rfl)
theorem dX13_init_10 : decode cX13_init 10 = .ok (.iconst 1, 1) := dk_4 (dk_at dksX13_init_0 10 rfl rfl)
theorem dX13_init_11 : decode cX13_init 11 = .ok (.bipush (-5), 2) := dk_16 251 (dk_at dksX13_init_0 11 rfl rfl)
theorem dX13_init_13 : decode cX13_init 13 = .ok (.iastore, 1) := dk_79 (dk_at dksX13_init_0 13 rfl rfl)
theorem dX13_init_14 : decode cX13_init 14 = .ok (.dup, 1) := dk_89 (dk_at dksX13_init_0 14 rfl rfl)
theorem dX13_init_15 : decode cX13_init 15 = .ok (.iconst 2, 1) := dk_5 (dk_at dksX13_init_0 15 rfl rfl)
theorem dX13_init_16 : decode cX13_init 16 = .ok (.bipush (-5), 2) := dk_16 251 (dk_at dksX13_init_0 16 rfl rfl)
theorem dX13_init_18 : decode cX13_init 18 = .ok (.iastore, 1) := dk_79 (dk_at dksX13_init_0 18 rfl rfl)
theorem dX13_init_19 : decode cX13_init 19 = .ok (.dup, 1) := dk_89 (dk_at dksX13_init_0 19 rfl rfl)
theorem dX13_init_20 : decode cX13_init 20 = .ok (.iconst 3, 1) := dk_6 (dk_at dksX13_init_0 20 rfl rfl)
theorem dX13_init_21 : decode cX13_init 21 = .ok (.bipush (-5), 2) := dk_16 251 (dk_at dksX13_init_0 21 rfl rfl)
theorem dX13_init_23 : decode cX13_init 23 = .ok (.iastore, 1) := dk_79 (dk_at dksX13_init_0 23 rfl rfl)
theorem dX13_init_24 : decode cX13_init 24 = .ok (.invokespecial 3, 3) := dk_183 0 3 (dk_at dksX13_init_1 0 rfl rfl)
theorem dX13_init_27 : decode cX13_init 27 = .ok (.aload_n 0, 1) := dk_42 (dk_at dksX13_init_1 3 rfl rfl)
theorem dX13_init_28 : decode cX13_init 28 = .ok (.aload_n 1, 1) := dk_43 (dk_at dksX13_init_1 4 rfl rfl)
theorem dX13_init_29 : decode cX13_init 29 = .ok (.invokevirtual 9, 3) := dk_182 0 9 (dk_at dksX13_init_1 5 rfl rfl)
theorem dX13_init_32 : decode cX13_init 32 = .ok (.checkcast 10, 3) := dk_192 0 10 (dk_at dksX13_init_1 8 rfl rfl)
theorem dX13_init_35 : decode cX13_init 35 = .ok (.putfield 15, 3) := dk_181 0 15 (dk_at dksX13_init_1 11 rfl rfl)
theorem dX13_init_38 : decode cX13_init 38 = .ok (.return_, 1) := dk_177 (dk_at dksX13_init_1 14 rfl rfl)
abbrev cX13_last : ByteArray := prog_10_method_4_code
def yX13_last : MethodName := ⟨RX13, "last", "()I"⟩
def dkwX13_last_0 : List UInt8 := [8, 60, 42, 180, 0, 15, 27, 46, 16, 251, 160, 0, 9, 132, 1, 255, 167, 255, 242, 27, 172]
abbrev dktX13_last_0 : List UInt8 := dkwX13_last_0 ++ []
theorem dksX13_last_0 : cX13_last.data.toList.drop 0 = dktX13_last_0 := by decide +kernel
theorem dX13_last_0 : decode cX13_last 0 = .ok (.iconst 5, 1) := dk_8 (dk_at dksX13_last_0 0 rfl rfl)
theorem dX13_last_1 : decode cX13_last 1 = .ok (.istore_n 1, 1) := dk_60 (dk_at dksX13_last_0 1 rfl rfl)
theorem dX13_last_2 : decode cX13_last 2 = .ok (.aload_n 0, 1) := dk_42 (dk_at dksX13_last_0 2 rfl rfl)
theorem dX13_last_3 : decode cX13_last 3 = .ok (.getfield 15, 3) := dk_180 0 15 (dk_at dksX13_last_0 3 rfl rfl)
theorem dX13_last_6 : decode cX13_last 6 = .ok (.iload_n 1, 1) := dk_27 (dk_at dksX13_last_0 6 rfl rfl)
theorem dX13_last_7 : decode cX13_last 7 = .ok (.iaload, 1) := dk_46 (dk_at dksX13_last_0 7 rfl rfl)
theorem dX13_last_8 : decode cX13_last 8 = .ok (.bipush (-5), 2) := dk_16 251 (dk_at dksX13_last_0 8 rfl rfl)
theorem dX13_last_10 : decode cX13_last 10 = .ok (.if_icmp .ne 9, 3) := dk_160 0 9 (dk_at dksX13_last_0 10 rfl rfl)
theorem dX13_last_13 : decode cX13_last 13 = .ok (.iinc 1 (-1), 3) := dk_132 1 255 (dk_at dksX13_last_0 13 rfl rfl)
theorem dX13_last_16 : decode cX13_last 16 = .ok (.goto (-14), 3) := dk_167 255 242 (dk_at dksX13_last_0 16 rfl rfl)
theorem dX13_last_19 : decode cX13_last 19 = .ok (.iload_n 1, 1) := dk_27 (dk_at dksX13_last_0 19 rfl rfl)
theorem dX13_last_20 : decode cX13_last 20 = .ok (.ireturn, 1) := dk_172 (dk_at dksX13_last_0 20 rfl rfl)
abbrev cX13_isKept : ByteArray := prog_10_method_11_code
def yX13_isKept : MethodName := ⟨RX13, "isKept", "(I[I)Z"⟩
def dkwX13_isKept_1 : List UInt8 := [46, 44, 29, 46, 159, 0, 5, 4, 172, 132, 3, 1, 167, 255, 222, 3, 172]
abbrev dktX13_isKept_1 : List UInt8 := dkwX13_isKept_1 ++ []
def dkwX13_isKept_0 : List UInt8 := [3, 62, 29, 16, 6, 162, 0, 34, 42, 180, 0, 15, 29, 46, 16, 251, 159, 0, 17, 42, 180, 0, 15, 29]
abbrev dktX13_isKept_0 : List UInt8 := dkwX13_isKept_0 ++ dktX13_isKept_1
theorem dksX13_isKept_0 : cX13_isKept.data.toList.drop 0 = dktX13_isKept_0 := by decide +kernel
theorem dksX13_isKept_1 : cX13_isKept.data.toList.drop 24 = dktX13_isKept_1 := dk_seg dksX13_isKept_0 24 rfl rfl
theorem dX13_isKept_0 : decode cX13_isKept 0 = .ok (.iconst 0, 1) := dk_3 (dk_at dksX13_isKept_0 0 rfl rfl)
theorem dX13_isKept_1 : decode cX13_isKept 1 = .ok (.istore_n 3, 1) := dk_62 (dk_at dksX13_isKept_0 1 rfl rfl)
theorem dX13_isKept_2 : decode cX13_isKept 2 = .ok (.iload_n 3, 1) := dk_29 (dk_at dksX13_isKept_0 2 rfl rfl)
theorem dX13_isKept_3 : decode cX13_isKept 3 = .ok (.bipush 6, 2) := dk_16 6 (dk_at dksX13_isKept_0 3 rfl rfl)
theorem dX13_isKept_5 : decode cX13_isKept 5 = .ok (.if_icmp .ge 34, 3) := dk_162 0 34 (dk_at dksX13_isKept_0 5 rfl rfl)
theorem dX13_isKept_8 : decode cX13_isKept 8 = .ok (.aload_n 0, 1) := dk_42 (dk_at dksX13_isKept_0 8 rfl rfl)
theorem dX13_isKept_9 : decode cX13_isKept 9 = .ok (.getfield 15, 3) := dk_180 0 15 (dk_at dksX13_isKept_0 9 rfl rfl)
theorem dX13_isKept_12 : decode cX13_isKept 12 = .ok (.iload_n 3, 1) := dk_29 (dk_at dksX13_isKept_0 12 rfl rfl)
theorem dX13_isKept_13 : decode cX13_isKept 13 = .ok (.iaload, 1) := dk_46 (dk_at dksX13_isKept_0 13 rfl rfl)
theorem dX13_isKept_14 : decode cX13_isKept 14 = .ok (.bipush (-5), 2) := dk_16 251 (dk_at dksX13_isKept_0 14 rfl rfl)
theorem dX13_isKept_16 : decode cX13_isKept 16 = .ok (.if_icmp .eq 17, 3) := dk_159 0 17 (dk_at dksX13_isKept_0 16 rfl rfl)
theorem dX13_isKept_19 : decode cX13_isKept 19 = .ok (.aload_n 0, 1) := dk_42 (dk_at dksX13_isKept_0 19 rfl rfl)
theorem dX13_isKept_20 : decode cX13_isKept 20 = .ok (.getfield 15, 3) := dk_180 0 15 (dk_at dksX13_isKept_0 20 rfl rfl)
theorem dX13_isKept_23 : decode cX13_isKept 23 = .ok (.iload_n 3, 1) := dk_29 (dk_at dksX13_isKept_0 23 rfl rfl)
theorem dX13_isKept_24 : decode cX13_isKept 24 = .ok (.iaload, 1) := dk_46 (dk_at dksX13_isKept_1 0 rfl rfl)
theorem dX13_isKept_25 : decode cX13_isKept 25 = .ok (.aload_n 2, 1) := dk_44 (dk_at dksX13_isKept_1 1 rfl rfl)
theorem dX13_isKept_26 : decode cX13_isKept 26 = .ok (.iload_n 3, 1) := dk_29 (dk_at dksX13_isKept_1 2 rfl rfl)
theorem dX13_isKept_27 : decode cX13_isKept 27 = .ok (.iaload, 1) := dk_46 (dk_at dksX13_isKept_1 3 rfl rfl)
theorem dX13_isKept_28 : decode cX13_isKept 28 = .ok (.if_icmp .eq 5, 3) := dk_159 0 5 (dk_at dksX13_isKept_1 4 rfl rfl)
theorem dX13_isKept_31 : decode cX13_isKept 31 = .ok (.iconst 1, 1) := dk_4 (dk_at dksX13_isKept_1 7 rfl rfl)
theorem dX13_isKept_32 : decode cX13_isKept 32 = .ok (.ireturn, 1) := dk_172 (dk_at dksX13_isKept_1 8 rfl rfl)
theorem dX13_isKept_33 : decode cX13_isKept 33 = .ok (.iinc 3 1, 3) := dk_132 3 1 (dk_at dksX13_isKept_1 9 rfl rfl)
theorem dX13_isKept_36 : decode cX13_isKept 36 = .ok (.goto (-34), 3) := dk_167 255 222 (dk_at dksX13_isKept_1 12 rfl rfl)
theorem dX13_isKept_39 : decode cX13_isKept 39 = .ok (.iconst 0, 1) := dk_3 (dk_at dksX13_isKept_1 15 rfl rfl)
theorem dX13_isKept_40 : decode cX13_isKept 40 = .ok (.ireturn, 1) := dk_172 (dk_at dksX13_isKept_1 16 rfl rfl)
theorem q121 : (Jvm.Cond.initialized "VersionSolver$Learned") ∈ lw_all := lw_g (lw_at lw_m1 32 rfl) rfl
theorem q414 : (Jvm.Cond.selects "VersionSolver$Learned" ({ cls := "java/lang/Object", name := "getClass", desc := "()Ljava/lang/Class;" } : Jvm.MethodName) ({ cls := "java/lang/Object", name := "getClass", desc := "()Ljava/lang/Class;" } : Jvm.MethodName)) ∈ lw_all := lw_g (lw_at lw_m2 85 rfl) rfl
theorem q633 : (Jvm.Cond.selects "VersionSolver$Learned" ({ cls := "VersionSolver$Rule", name := "isOf", desc := "(II)Z" } : Jvm.MethodName) ({ cls := "VersionSolver$Rule", name := "isOf", desc := "(II)Z" } : Jvm.MethodName)) ∈ lw_all := lw_g (lw_at lw_m3 64 rfl) rfl
theorem q799 : (Jvm.Cond.selects "VersionSolver$Learned" ({ cls := "VersionSolver$Rule", name := "what", desc := "(I)I" } : Jvm.MethodName) ({ cls := "VersionSolver$Learned", name := "what", desc := "(I)I" } : Jvm.MethodName)) ∈ lw_all := lw_g (lw_at lw_m3 230 rfl) rfl
theorem q800 : (Jvm.Cond.instanceMethod ({ cls := "VersionSolver$Learned", name := "what", desc := "(I)I" } : Jvm.MethodName)) ∈ lw_all := lw_g (lw_at lw_m3 231 rfl) rfl
theorem q801 : (Jvm.Cond.code ({ cls := "VersionSolver$Learned", name := "what", desc := "(I)I" } : Jvm.MethodName) prog_10_method_6_code (2 : Nat) (Option.some Jvm.ClassFile.FieldType.int)) ∈ lw_all := lw_g (lw_at lw_m3 232 rfl) rfl
theorem q802 : (Jvm.Cond.methodLink "VersionSolver$Learned" (20 : Nat) ({ cls := "VersionSolver$Learned", name := "packs", desc := "()I" } : Jvm.MethodName)) ∈ lw_all := lw_g (lw_at lw_m3 233 rfl) rfl
theorem q803 : (Jvm.Cond.privateMethod ({ cls := "VersionSolver$Learned", name := "packs", desc := "()I" } : Jvm.MethodName)) ∈ lw_tbl := lw_at lw_m3 234 rfl
theorem q804 : (Jvm.Cond.instanceMethod ({ cls := "VersionSolver$Learned", name := "packs", desc := "()I" } : Jvm.MethodName)) ∈ lw_all := lw_g (lw_at lw_m3 235 rfl) rfl
theorem q805 : (Jvm.Cond.instantiable "VersionSolver$Learned" (5 : Nat)) ∈ lw_all := lw_g (lw_at lw_m3 236 rfl) rfl
theorem q806 : (Jvm.Cond.code ({ cls := "VersionSolver$Learned", name := "packs", desc := "()I" } : Jvm.MethodName) prog_10_method_5_code (3 : Nat) (Option.some Jvm.ClassFile.FieldType.int)) ∈ lw_all := lw_g (lw_at lw_m3 237 rfl) rfl
theorem q807 : (Jvm.Cond.methodLinkNest "VersionSolver$Learned" (24 : Nat) ({ cls := "VersionSolver", name := "many", desc := "(I)I" } : Jvm.MethodName) "VersionSolver") ∈ lw_tbl := lw_at lw_m3 238 rfl
theorem q810 : (Jvm.Cond.methodLink "VersionSolver$Learned" (28 : Nat) ({ cls := "VersionSolver$Rule", name := "what", desc := "(I)I" } : Jvm.MethodName)) ∈ lw_all := lw_g (lw_at lw_m4 1 rfl) rfl
theorem q811 : (Jvm.Cond.superclass "VersionSolver$Learned" "VersionSolver$Rule") ∈ lw_all := lw_g (lw_at lw_m4 2 rfl) rfl
theorem q819 : (Jvm.Cond.selects "VersionSolver$Learned" ({ cls := "VersionSolver$Rule", name := "kind", desc := "()I" } : Jvm.MethodName) ({ cls := "VersionSolver$Learned", name := "kind", desc := "()I" } : Jvm.MethodName)) ∈ lw_all := lw_g (lw_at lw_m4 10 rfl) rfl
theorem q820 : (Jvm.Cond.instanceMethod ({ cls := "VersionSolver$Learned", name := "kind", desc := "()I" } : Jvm.MethodName)) ∈ lw_all := lw_g (lw_at lw_m4 11 rfl) rfl
theorem q821 : (Jvm.Cond.code ({ cls := "VersionSolver$Learned", name := "kind", desc := "()I" } : Jvm.MethodName) prog_10_method_2_code (1 : Nat) (Option.some Jvm.ClassFile.FieldType.int)) ∈ lw_all := lw_g (lw_at lw_m4 12 rfl) rfl
theorem q838 : (Jvm.Cond.selects "VersionSolver$Learned" ({ cls := "VersionSolver$Rule", name := "stateOf", desc := "(I)I" } : Jvm.MethodName) ({ cls := "VersionSolver$Learned", name := "stateOf", desc := "(I)I" } : Jvm.MethodName)) ∈ lw_all := lw_g (lw_at lw_m4 29 rfl) rfl
theorem q839 : (Jvm.Cond.instanceMethod ({ cls := "VersionSolver$Learned", name := "stateOf", desc := "(I)I" } : Jvm.MethodName)) ∈ lw_all := lw_g (lw_at lw_m4 30 rfl) rfl
theorem q840 : (Jvm.Cond.code ({ cls := "VersionSolver$Learned", name := "stateOf", desc := "(I)I" } : Jvm.MethodName) prog_10_method_7_code (2 : Nat) (Option.some Jvm.ClassFile.FieldType.int)) ∈ lw_all := lw_g (lw_at lw_m4 31 rfl) rfl
theorem q878 : (Jvm.Cond.selects "VersionSolver$Learned" ({ cls := "VersionSolver$Rule", name := "ranged", desc := "()I" } : Jvm.MethodName) ({ cls := "VersionSolver$Learned", name := "ranged", desc := "()I" } : Jvm.MethodName)) ∈ lw_all := lw_g (lw_at lw_m4 69 rfl) rfl
theorem q879 : (Jvm.Cond.instanceMethod ({ cls := "VersionSolver$Learned", name := "ranged", desc := "()I" } : Jvm.MethodName)) ∈ lw_all := lw_g (lw_at lw_m4 70 rfl) rfl
theorem q880 : (Jvm.Cond.code ({ cls := "VersionSolver$Learned", name := "ranged", desc := "()I" } : Jvm.MethodName) prog_10_method_3_code (1 : Nat) (Option.some Jvm.ClassFile.FieldType.int)) ∈ lw_all := lw_g (lw_at lw_m4 71 rfl) rfl
theorem q899 : (Jvm.Cond.fieldLinkNest "VersionSolver$Learned" (31 : Nat) "VersionSolver$Trace" "left" "[I" "VersionSolver") ∈ lw_tbl := lw_at lw_m4 90 rfl
theorem q964 : (Jvm.Cond.selects "VersionSolver$Learned" ({ cls := "VersionSolver$Rule", name := "conditions", desc := "(I)I" } : Jvm.MethodName) ({ cls := "VersionSolver$Learned", name := "conditions", desc := "(I)I" } : Jvm.MethodName)) ∈ lw_all := lw_g (lw_at lw_m4 155 rfl) rfl
theorem q965 : (Jvm.Cond.instanceMethod ({ cls := "VersionSolver$Learned", name := "conditions", desc := "(I)I" } : Jvm.MethodName)) ∈ lw_all := lw_g (lw_at lw_m4 156 rfl) rfl
theorem q966 : (Jvm.Cond.code ({ cls := "VersionSolver$Learned", name := "conditions", desc := "(I)I" } : Jvm.MethodName) prog_10_method_8_code (2 : Nat) (Option.some Jvm.ClassFile.FieldType.int)) ∈ lw_all := lw_g (lw_at lw_m4 157 rfl) rfl
theorem q1004 : (Jvm.Cond.selects "VersionSolver$Learned" ({ cls := "VersionSolver$Rule", name := "narrows", desc := "(LVersionSolver$Trace;I)V" } : Jvm.MethodName) ({ cls := "VersionSolver$Learned", name := "narrows", desc := "(LVersionSolver$Trace;I)V" } : Jvm.MethodName)) ∈ lw_all := lw_g (lw_at lw_m4 195 rfl) rfl
theorem q1005 : (Jvm.Cond.instanceMethod ({ cls := "VersionSolver$Learned", name := "narrows", desc := "(LVersionSolver$Trace;I)V" } : Jvm.MethodName)) ∈ lw_all := lw_g (lw_at lw_m4 196 rfl) rfl
theorem q1006 : (Jvm.Cond.code ({ cls := "VersionSolver$Learned", name := "narrows", desc := "(LVersionSolver$Trace;I)V" } : Jvm.MethodName) prog_10_method_10_code (5 : Nat) (Option.none : Option Jvm.ClassFile.FieldType)) ∈ lw_all := lw_g (lw_at lw_m4 197 rfl) rfl
theorem q1007 : (Jvm.Cond.methodLink "VersionSolver$Learned" (36 : Nat) ({ cls := "VersionSolver$Learned", name := "impossible", desc := "(I[II)I" } : Jvm.MethodName)) ∈ lw_all := lw_g (lw_at lw_m4 198 rfl) rfl
theorem q1008 : (Jvm.Cond.instanceMethod ({ cls := "VersionSolver$Learned", name := "impossible", desc := "(I[II)I" } : Jvm.MethodName)) ∈ lw_all := lw_g (lw_at lw_m4 199 rfl) rfl
theorem q1009 : (Jvm.Cond.selects "VersionSolver$Learned" ({ cls := "VersionSolver$Learned", name := "impossible", desc := "(I[II)I" } : Jvm.MethodName) ({ cls := "VersionSolver$Learned", name := "impossible", desc := "(I[II)I" } : Jvm.MethodName)) ∈ lw_all := lw_g (lw_at lw_m4 200 rfl) rfl
theorem q1010 : (Jvm.Cond.code ({ cls := "VersionSolver$Learned", name := "impossible", desc := "(I[II)I" } : Jvm.MethodName) prog_10_method_9_code (5 : Nat) (Option.some Jvm.ClassFile.FieldType.int)) ∈ lw_all := lw_g (lw_at lw_m4 201 rfl) rfl
theorem q1011 : (Jvm.Cond.methodLink "VersionSolver$Learned" (40 : Nat) ({ cls := "VersionSolver$Trace", name := "leavesOut", desc := "(III)V" } : Jvm.MethodName)) ∈ lw_all := lw_g (lw_at lw_m4 202 rfl) rfl
theorem q1091 : (Jvm.Cond.selects "VersionSolver$Learned" ({ cls := "VersionSolver$Rule", name := "impossible", desc := "(I[II)I" } : Jvm.MethodName) ({ cls := "VersionSolver$Learned", name := "impossible", desc := "(I[II)I" } : Jvm.MethodName)) ∈ lw_all := lw_g (lw_at lw_m5 42 rfl) rfl
theorem q1151 : (Jvm.Cond.instanceMethod ({ cls := "VersionSolver$Learned", name := "<init>", desc := "([I)V" } : Jvm.MethodName)) ∈ lw_all := lw_g (lw_at lw_m5 102 rfl) rfl
theorem q1152 : (Jvm.Cond.code ({ cls := "VersionSolver$Learned", name := "<init>", desc := "([I)V" } : Jvm.MethodName) prog_10_method_1_code (2 : Nat) (Option.none : Option Jvm.ClassFile.FieldType)) ∈ lw_all := lw_g (lw_at lw_m5 103 rfl) rfl
theorem q1153 : (Jvm.Cond.methodLink "VersionSolver$Learned" (3 : Nat) ({ cls := "VersionSolver$Rule", name := "<init>", desc := "([I)V" } : Jvm.MethodName)) ∈ lw_all := lw_g (lw_at lw_m5 104 rfl) rfl
theorem q1154 : (Jvm.Cond.methodLink "VersionSolver$Learned" (9 : Nat) ({ cls := "[I", name := "clone", desc := "()Ljava/lang/Object;" } : Jvm.MethodName)) ∈ lw_all := lw_g (lw_at lw_m5 105 rfl) rfl
theorem q1160 : (Jvm.Cond.classLink "VersionSolver$Learned" (10 : Nat) "[I") ∈ lw_all := lw_g (lw_at lw_m5 111 rfl) rfl
theorem q1161 : (Jvm.Cond.fieldLink "VersionSolver$Learned" (15 : Nat) "VersionSolver$Learned" "states" "[I") ∈ lw_all := lw_g (lw_at lw_m5 112 rfl) rfl
theorem q1162 : (Jvm.Cond.laysFinal "VersionSolver$Learned" "VersionSolver$Learned" "states" "[I") ∈ lw_all := lw_g (lw_at lw_m5 113 rfl) rfl
theorem q1163 : (Jvm.Cond.soleField "VersionSolver$Learned" "states") ∈ lw_all := lw_g (lw_at lw_m5 114 rfl) rfl
theorem q1164 : (Jvm.Cond.laysFinal "VersionSolver$Learned" "VersionSolver$Rule" "pack" "I") ∈ lw_all := lw_g (lw_at lw_m5 115 rfl) rfl
theorem q1165 : (Jvm.Cond.laysFinal "VersionSolver$Learned" "VersionSolver$Rule" "version" "I") ∈ lw_all := lw_g (lw_at lw_m5 116 rfl) rfl
theorem q1166 : (Jvm.Cond.laysFinal "VersionSolver$Learned" "VersionSolver$Rule" "other" "I") ∈ lw_all := lw_g (lw_at lw_m5 117 rfl) rfl
theorem q1167 : (Jvm.Cond.laysFinal "VersionSolver$Learned" "VersionSolver$Rule" "range" "I") ∈ lw_all := lw_g (lw_at lw_m5 118 rfl) rfl
theorem q1254 : (Jvm.Cond.selects "VersionSolver$Learned" ({ cls := "VersionSolver$Rule", name := "wanted", desc := "()I" } : Jvm.MethodName) ({ cls := "VersionSolver$Rule", name := "wanted", desc := "()I" } : Jvm.MethodName)) ∈ lw_all := lw_g (lw_at lw_m5 205 rfl) rfl
theorem q1264 : (Jvm.Cond.selects "VersionSolver$Learned" ({ cls := "VersionSolver$Rule", name := "reaches", desc := "(II)I" } : Jvm.MethodName) ({ cls := "VersionSolver$Rule", name := "reaches", desc := "(II)I" } : Jvm.MethodName)) ∈ lw_all := lw_g (lw_at lw_m5 215 rfl) rfl
theorem q1305 : (Jvm.Cond.selects "VersionSolver$Learned" ({ cls := "VersionSolver$Rule", name := "last", desc := "()I" } : Jvm.MethodName) ({ cls := "VersionSolver$Learned", name := "last", desc := "()I" } : Jvm.MethodName)) ∈ lw_all := lw_g (lw_at lw_m6 16 rfl) rfl
theorem q1306 : (Jvm.Cond.instanceMethod ({ cls := "VersionSolver$Learned", name := "last", desc := "()I" } : Jvm.MethodName)) ∈ lw_all := lw_g (lw_at lw_m6 17 rfl) rfl
theorem q1307 : (Jvm.Cond.code ({ cls := "VersionSolver$Learned", name := "last", desc := "()I" } : Jvm.MethodName) prog_10_method_4_code (2 : Nat) (Option.some Jvm.ClassFile.FieldType.int)) ∈ lw_all := lw_g (lw_at lw_m6 18 rfl) rfl
theorem q1319 : (Jvm.Cond.selects "VersionSolver$Learned" ({ cls := "VersionSolver$Rule", name := "isKept", desc := "(I[I)Z" } : Jvm.MethodName) ({ cls := "VersionSolver$Learned", name := "isKept", desc := "(I[I)Z" } : Jvm.MethodName)) ∈ lw_all := lw_g (lw_at lw_m6 30 rfl) rfl
theorem q1320 : (Jvm.Cond.instanceMethod ({ cls := "VersionSolver$Learned", name := "isKept", desc := "(I[I)Z" } : Jvm.MethodName)) ∈ lw_all := lw_g (lw_at lw_m6 31 rfl) rfl
theorem q1321 : (Jvm.Cond.code ({ cls := "VersionSolver$Learned", name := "isKept", desc := "(I[I)Z" } : Jvm.MethodName) prog_10_method_11_code (4 : Nat) (Option.some Jvm.ClassFile.FieldType.boolean)) ∈ lw_all := lw_g (lw_at lw_m6 32 rfl) rfl
theorem q2499 : (Jvm.Cond.castable "VersionSolver$Learned" "VersionSolver$Rule") ∈ lw_tbl := lw_at lw_m11 10 rfl
theorem q2517 : (Jvm.Cond.castable "VersionSolver$Learned" "java/lang/Object") ∈ lw_tbl := lw_at lw_m11 28 rfl
theorem in_X13 : ∀ w ∈ wsX130, w ∈ lw_all := lw_in wsX130 [1164, 1165, 1166, 1167, 1162] (by decide +kernel) (by decide +kernel)
/-! VersionSolver$Search -/
set_option maxRecDepth 100000
def RX14 : String := "VersionSolver$Search"
abbrev cX14_init : ByteArray := prog_16_method_1_code
def yX14_init : MethodName := ⟨RX14, "<init>", "(LVersionSolver$Board;I)V"⟩
def dkwX14_init_3 : List UInt8 := [182, 0, 50, 132, 3, 1, 167, 255, 223, 177]
abbrev dktX14_init_3 : List UInt8 := dkwX14_init_3 ++ []
def dkwX14_init_2 : List UInt8 := [182, 0, 38, 162, 0, 28, 42, 43, 180, 0, 34, 29, 182, 0, 44, 192, 0, 48, 16, 6, 29, 104]
abbrev dktX14_init_2 : List UInt8 := dkwX14_init_2 ++ dktX14_init_3
def dkwX14_init_1 : List UInt8 := [181, 0, 18, 42, 28, 181, 0, 22, 42, 43, 182, 0, 26, 181, 0, 32, 3, 62, 29, 43, 180, 0, 34]
abbrev dktX14_init_1 : List UInt8 := dkwX14_init_1 ++ dktX14_init_2
def dkwX14_init_0 : List UInt8 := [42, 183, 0, 3, 42, 16, 36, 188, 10, 181, 0, 9, 42, 16, 6, 188, 10, 181, 0, 15, 42, 43]
abbrev dktX14_init_0 : List UInt8 := dkwX14_init_0 ++ dktX14_init_1
theorem dksX14_init_0 : cX14_init.data.toList.drop 0 = dktX14_init_0 := by decide +kernel
theorem dksX14_init_1 : cX14_init.data.toList.drop 22 = dktX14_init_1 := dk_seg dksX14_init_0 22 rfl rfl
theorem dksX14_init_2 : cX14_init.data.toList.drop 45 = dktX14_init_2 := dk_seg dksX14_init_1 23 rfl rfl
theorem dksX14_init_3 : cX14_init.data.toList.drop 67 = dktX14_init_3 := dk_seg dksX14_init_2 22 rfl rfl
theorem dX14_init_0 : decode cX14_init 0 = .ok (.aload_n 0, 1) := dk_42 (dk_at dksX14_init_0 0 rfl rfl)
theorem dX14_init_1 : decode cX14_init 1 = .ok (.invokespecial 3, 3) := dk_183 0 3 (dk_at dksX14_init_0 1 rfl rfl)
theorem dX14_init_4 : decode cX14_init 4 = .ok (.aload_n 0, 1) := dk_42 (dk_at dksX14_init_0 4 rfl rfl)
theorem dX14_init_5 : decode cX14_init 5 = .ok (.bipush 36, 2) := dk_16 36 (dk_at dksX14_init_0 5 rfl rfl)
theorem dX14_init_7 : decode cX14_init 7 = .ok (.newarray .int, 2) := dk_188_10 (dk_at dksX14_init_0 7 rfl rfl)
theorem dX14_init_9 : decode cX14_init 9 = .ok (.putfield 9, 3) := dk_181 0 9 (dk_at dksX14_init_0 9 rfl rfl)
theorem dX14_init_12 : decode cX14_init 12 = .ok (.aload_n 0, 1) := dk_42 (dk_at dksX14_init_0 12 rfl rfl)
theorem dX14_init_13 : decode cX14_init 13 = .ok (.bipush 6, 2) := dk_16 6 (dk_at dksX14_init_0 13 rfl rfl)
theorem dX14_init_15 : decode cX14_init 15 = .ok (.newarray .int, 2) := dk_188_10 (dk_at dksX14_init_0 15 rfl rfl)
theorem dX14_init_17 : decode cX14_init 17 = .ok (.putfield 15, 3) := dk_181 0 15 (dk_at dksX14_init_0 17 rfl rfl)
theorem dX14_init_20 : decode cX14_init 20 = .ok (.aload_n 0, 1) := dk_42 (dk_at dksX14_init_0 20 rfl rfl)
theorem dX14_init_21 : decode cX14_init 21 = .ok (.aload_n 1, 1) := dk_43 (dk_at dksX14_init_0 21 rfl rfl)
theorem dX14_init_22 : decode cX14_init 22 = .ok (.putfield 18, 3) := dk_181 0 18 (dk_at dksX14_init_1 0 rfl rfl)
theorem dX14_init_25 : decode cX14_init 25 = .ok (.aload_n 0, 1) := dk_42 (dk_at dksX14_init_1 3 rfl rfl)
theorem dX14_init_26 : decode cX14_init 26 = .ok (.iload_n 2, 1) := dk_28 (dk_at dksX14_init_1 4 rfl rfl)
theorem dX14_init_27 : decode cX14_init 27 = .ok (.putfield 22, 3) := dk_181 0 22 (dk_at dksX14_init_1 5 rfl rfl)
theorem dX14_init_30 : decode cX14_init 30 = .ok (.aload_n 0, 1) := dk_42 (dk_at dksX14_init_1 8 rfl rfl)
theorem dX14_init_31 : decode cX14_init 31 = .ok (.aload_n 1, 1) := dk_43 (dk_at dksX14_init_1 9 rfl rfl)
theorem dX14_init_32 : decode cX14_init 32 = .ok (.invokevirtual 26, 3) := dk_182 0 26 (dk_at dksX14_init_1 10 rfl rfl)
theorem dX14_init_35 : decode cX14_init 35 = .ok (.putfield 32, 3) := dk_181 0 32 (dk_at dksX14_init_1 13 rfl rfl)
theorem dX14_init_38 : decode cX14_init 38 = .ok (.iconst 0, 1) := dk_3 (dk_at dksX14_init_1 16 rfl rfl)
theorem dX14_init_39 : decode cX14_init 39 = .ok (.istore_n 3, 1) := dk_62 (dk_at dksX14_init_1 17 rfl rfl)
theorem dX14_init_40 : decode cX14_init 40 = .ok (.iload_n 3, 1) := dk_29 (dk_at dksX14_init_1 18 rfl rfl)
theorem dX14_init_41 : decode cX14_init 41 = .ok (.aload_n 1, 1) := dk_43 (dk_at dksX14_init_1 19 rfl rfl)
theorem dX14_init_42 : decode cX14_init 42 = .ok (.getfield 34, 3) := dk_180 0 34 (dk_at dksX14_init_1 20 rfl rfl)
theorem dX14_init_45 : decode cX14_init 45 = .ok (.invokevirtual 38, 3) := dk_182 0 38 (dk_at dksX14_init_2 0 rfl rfl)
theorem dX14_init_48 : decode cX14_init 48 = .ok (.if_icmp .ge 28, 3) := dk_162 0 28 (dk_at dksX14_init_2 3 rfl rfl)
theorem dX14_init_51 : decode cX14_init 51 = .ok (.aload_n 0, 1) := dk_42 (dk_at dksX14_init_2 6 rfl rfl)
theorem dX14_init_52 : decode cX14_init 52 = .ok (.aload_n 1, 1) := dk_43 (dk_at dksX14_init_2 7 rfl rfl)
theorem dX14_init_53 : decode cX14_init 53 = .ok (.getfield 34, 3) := dk_180 0 34 (dk_at dksX14_init_2 8 rfl rfl)
theorem dX14_init_56 : decode cX14_init 56 = .ok (.iload_n 3, 1) := dk_29 (dk_at dksX14_init_2 11 rfl rfl)
theorem dX14_init_57 : decode cX14_init 57 = .ok (.invokevirtual 44, 3) := dk_182 0 44 (dk_at dksX14_init_2 12 rfl rfl)
theorem dX14_init_60 : decode cX14_init 60 = .ok (.checkcast 48, 3) := dk_192 0 48 (dk_at dksX14_init_2 15 rfl rfl)
theorem dX14_init_63 : decode cX14_init 63 = .ok (.bipush 6, 2) := dk_16 6 (dk_at dksX14_init_2 18 rfl rfl)
theorem dX14_init_65 : decode cX14_init 65 = .ok (.iload_n 3, 1) := dk_29 (dk_at dksX14_init_2 20 rfl rfl)
theorem dX14_init_66 : decode cX14_init 66 = .ok (.imul, 1) := dk_104 (dk_at dksX14_init_2 21 rfl rfl)
theorem dX14_init_67 : decode cX14_init 67 = .ok (.invokevirtual 50, 3) := dk_182 0 50 (dk_at dksX14_init_3 0 rfl rfl)
theorem dX14_init_70 : decode cX14_init 70 = .ok (.iinc 3 1, 3) := dk_132 3 1 (dk_at dksX14_init_3 3 rfl rfl)
theorem dX14_init_73 : decode cX14_init 73 = .ok (.goto (-33), 3) := dk_167 255 223 (dk_at dksX14_init_3 6 rfl rfl)
theorem dX14_init_76 : decode cX14_init 76 = .ok (.return_, 1) := dk_177 (dk_at dksX14_init_3 9 rfl rfl)
abbrev cX14_orders : ByteArray := prog_16_method_2_code
def yX14_orders : MethodName := ⟨RX14, "orders", "(LVersionSolver$Pack;I)V"⟩
def dkwX14_orders_2 : List UInt8 := [96, 8, 79, 177]
abbrev dktX14_orders_2 : List UInt8 := dkwX14_orders_2 ++ []
def dkwX14_orders_1 : List UInt8 := [4, 100, 43, 21, 4, 182, 0, 57, 100, 21, 4, 79, 132, 4, 1, 167, 255, 228, 42, 180, 0, 9, 28, 29]
abbrev dktX14_orders_1 : List UInt8 := dkwX14_orders_1 ++ dktX14_orders_2
def dkwX14_orders_0 : List UInt8 := [43, 180, 0, 54, 182, 0, 38, 62, 3, 54, 4, 21, 4, 29, 162, 0, 28, 42, 180, 0, 9, 28, 29, 96]
abbrev dktX14_orders_0 : List UInt8 := dkwX14_orders_0 ++ dktX14_orders_1
theorem dksX14_orders_0 : cX14_orders.data.toList.drop 0 = dktX14_orders_0 := by decide +kernel
theorem dksX14_orders_1 : cX14_orders.data.toList.drop 24 = dktX14_orders_1 := dk_seg dksX14_orders_0 24 rfl rfl
theorem dksX14_orders_2 : cX14_orders.data.toList.drop 48 = dktX14_orders_2 := dk_seg dksX14_orders_1 24 rfl rfl
theorem dX14_orders_0 : decode cX14_orders 0 = .ok (.aload_n 1, 1) := dk_43 (dk_at dksX14_orders_0 0 rfl rfl)
theorem dX14_orders_1 : decode cX14_orders 1 = .ok (.getfield 54, 3) := dk_180 0 54 (dk_at dksX14_orders_0 1 rfl rfl)
theorem dX14_orders_4 : decode cX14_orders 4 = .ok (.invokevirtual 38, 3) := dk_182 0 38 (dk_at dksX14_orders_0 4 rfl rfl)
theorem dX14_orders_7 : decode cX14_orders 7 = .ok (.istore_n 3, 1) := dk_62 (dk_at dksX14_orders_0 7 rfl rfl)
theorem dX14_orders_8 : decode cX14_orders 8 = .ok (.iconst 0, 1) := dk_3 (dk_at dksX14_orders_0 8 rfl rfl)
theorem dX14_orders_9 : decode cX14_orders 9 = .ok (.istore 4, 2) := dk_54 4 (dk_at dksX14_orders_0 9 rfl rfl)
theorem dX14_orders_11 : decode cX14_orders 11 = .ok (.iload 4, 2) := dk_21 4 (dk_at dksX14_orders_0 11 rfl rfl)
theorem dX14_orders_13 : decode cX14_orders 13 = .ok (.iload_n 3, 1) := dk_29 (dk_at dksX14_orders_0 13 rfl rfl)
theorem dX14_orders_14 : decode cX14_orders 14 = .ok (.if_icmp .ge 28, 3) := dk_162 0 28 (dk_at dksX14_orders_0 14 rfl rfl)
theorem dX14_orders_17 : decode cX14_orders 17 = .ok (.aload_n 0, 1) := dk_42 (dk_at dksX14_orders_0 17 rfl rfl)
theorem dX14_orders_18 : decode cX14_orders 18 = .ok (.getfield 9, 3) := dk_180 0 9 (dk_at dksX14_orders_0 18 rfl rfl)
theorem dX14_orders_21 : decode cX14_orders 21 = .ok (.iload_n 2, 1) := dk_28 (dk_at dksX14_orders_0 21 rfl rfl)
theorem dX14_orders_22 : decode cX14_orders 22 = .ok (.iload_n 3, 1) := dk_29 (dk_at dksX14_orders_0 22 rfl rfl)
theorem dX14_orders_23 : decode cX14_orders 23 = .ok (.iadd, 1) := dk_96 (dk_at dksX14_orders_0 23 rfl rfl)
theorem dX14_orders_24 : decode cX14_orders 24 = .ok (.iconst 1, 1) := dk_4 (dk_at dksX14_orders_1 0 rfl rfl)
theorem dX14_orders_25 : decode cX14_orders 25 = .ok (.isub, 1) := dk_100 (dk_at dksX14_orders_1 1 rfl rfl)
theorem dX14_orders_26 : decode cX14_orders 26 = .ok (.aload_n 1, 1) := dk_43 (dk_at dksX14_orders_1 2 rfl rfl)
theorem dX14_orders_27 : decode cX14_orders 27 = .ok (.iload 4, 2) := dk_21 4 (dk_at dksX14_orders_1 3 rfl rfl)
theorem dX14_orders_29 : decode cX14_orders 29 = .ok (.invokevirtual 57, 3) := dk_182 0 57 (dk_at dksX14_orders_1 5 rfl rfl)
theorem dX14_orders_32 : decode cX14_orders 32 = .ok (.isub, 1) := dk_100 (dk_at dksX14_orders_1 8 rfl rfl)
theorem dX14_orders_33 : decode cX14_orders 33 = .ok (.iload 4, 2) := dk_21 4 (dk_at dksX14_orders_1 9 rfl rfl)
theorem dX14_orders_35 : decode cX14_orders 35 = .ok (.iastore, 1) := dk_79 (dk_at dksX14_orders_1 11 rfl rfl)
theorem dX14_orders_36 : decode cX14_orders 36 = .ok (.iinc 4 1, 3) := dk_132 4 1 (dk_at dksX14_orders_1 12 rfl rfl)
theorem dX14_orders_39 : decode cX14_orders 39 = .ok (.goto (-28), 3) := dk_167 255 228 (dk_at dksX14_orders_1 15 rfl rfl)
theorem dX14_orders_42 : decode cX14_orders 42 = .ok (.aload_n 0, 1) := dk_42 (dk_at dksX14_orders_1 18 rfl rfl)
theorem dX14_orders_43 : decode cX14_orders 43 = .ok (.getfield 9, 3) := dk_180 0 9 (dk_at dksX14_orders_1 19 rfl rfl)
theorem dX14_orders_46 : decode cX14_orders 46 = .ok (.iload_n 2, 1) := dk_28 (dk_at dksX14_orders_1 22 rfl rfl)
theorem dX14_orders_47 : decode cX14_orders 47 = .ok (.iload_n 3, 1) := dk_29 (dk_at dksX14_orders_1 23 rfl rfl)
theorem dX14_orders_48 : decode cX14_orders 48 = .ok (.iadd, 1) := dk_96 (dk_at dksX14_orders_2 0 rfl rfl)
theorem dX14_orders_49 : decode cX14_orders 49 = .ok (.iconst 5, 1) := dk_8 (dk_at dksX14_orders_2 1 rfl rfl)
theorem dX14_orders_50 : decode cX14_orders 50 = .ok (.iastore, 1) := dk_79 (dk_at dksX14_orders_2 2 rfl rfl)
theorem dX14_orders_51 : decode cX14_orders 51 = .ok (.return_, 1) := dk_177 (dk_at dksX14_orders_2 3 rfl rfl)
abbrev cX14_goes : ByteArray := prog_16_method_8_code
def yX14_goes : MethodName := ⟨RX14, "goes", "(I)Z"⟩
def dkwX14_goes_5 : List UInt8 := [132, 4, 1, 167, 255, 201, 29, 172]
abbrev dktX14_goes_5 : List UInt8 := dkwX14_goes_5 ++ []
def dkwX14_goes_4 : List UInt8 := [182, 0, 108, 153, 0, 13, 42, 27, 4, 96, 182, 0, 112, 153, 0, 7, 4, 167, 0, 4, 3, 62]
abbrev dktX14_goes_4 : List UInt8 := dkwX14_goes_4 ++ dktX14_goes_5
def dkwX14_goes_3 : List UInt8 := [153, 0, 51, 42, 180, 0, 15, 27, 42, 180, 0, 9, 16, 6, 27, 104, 21, 4, 96, 46, 79, 42, 27]
abbrev dktX14_goes_3 : List UInt8 := dkwX14_goes_3 ++ dktX14_goes_4
def dkwX14_goes_2 : List UInt8 := [192, 0, 48, 180, 0, 54, 182, 0, 38, 61, 4, 62, 3, 54, 4, 21, 4, 28, 163, 0, 55, 29]
abbrev dktX14_goes_2 : List UInt8 := dkwX14_goes_2 ++ dktX14_goes_3
def dkwX14_goes_1 : List UInt8 := [182, 0, 105, 153, 0, 7, 4, 167, 0, 4, 3, 172, 42, 180, 0, 18, 180, 0, 34, 27, 182, 0, 44]
abbrev dktX14_goes_1 : List UInt8 := dkwX14_goes_1 ++ dktX14_goes_2
def dkwX14_goes_0 : List UInt8 := [27, 42, 180, 0, 18, 180, 0, 34, 182, 0, 38, 160, 0, 23, 42, 182, 0, 101, 153, 0, 10, 42]
abbrev dktX14_goes_0 : List UInt8 := dkwX14_goes_0 ++ dktX14_goes_1
theorem dksX14_goes_0 : cX14_goes.data.toList.drop 0 = dktX14_goes_0 := by decide +kernel
theorem dksX14_goes_1 : cX14_goes.data.toList.drop 22 = dktX14_goes_1 := dk_seg dksX14_goes_0 22 rfl rfl
theorem dksX14_goes_2 : cX14_goes.data.toList.drop 45 = dktX14_goes_2 := dk_seg dksX14_goes_1 23 rfl rfl
theorem dksX14_goes_3 : cX14_goes.data.toList.drop 67 = dktX14_goes_3 := dk_seg dksX14_goes_2 22 rfl rfl
theorem dksX14_goes_4 : cX14_goes.data.toList.drop 90 = dktX14_goes_4 := dk_seg dksX14_goes_3 23 rfl rfl
theorem dksX14_goes_5 : cX14_goes.data.toList.drop 112 = dktX14_goes_5 := dk_seg dksX14_goes_4 22 rfl rfl
theorem dX14_goes_0 : decode cX14_goes 0 = .ok (.iload_n 1, 1) := dk_27 (dk_at dksX14_goes_0 0 rfl rfl)
theorem dX14_goes_1 : decode cX14_goes 1 = .ok (.aload_n 0, 1) := dk_42 (dk_at dksX14_goes_0 1 rfl rfl)
theorem dX14_goes_2 : decode cX14_goes 2 = .ok (.getfield 18, 3) := dk_180 0 18 (dk_at dksX14_goes_0 2 rfl rfl)
theorem dX14_goes_5 : decode cX14_goes 5 = .ok (.getfield 34, 3) := dk_180 0 34 (dk_at dksX14_goes_0 5 rfl rfl)
theorem dX14_goes_8 : decode cX14_goes 8 = .ok (.invokevirtual 38, 3) := dk_182 0 38 (dk_at dksX14_goes_0 8 rfl rfl)
theorem dX14_goes_11 : decode cX14_goes 11 = .ok (.if_icmp .ne 23, 3) := dk_160 0 23 (dk_at dksX14_goes_0 11 rfl rfl)
theorem dX14_goes_14 : decode cX14_goes 14 = .ok (.aload_n 0, 1) := dk_42 (dk_at dksX14_goes_0 14 rfl rfl)
theorem dX14_goes_15 : decode cX14_goes 15 = .ok (.invokevirtual 101, 3) := dk_182 0 101 (dk_at dksX14_goes_0 15 rfl rfl)
theorem dX14_goes_18 : decode cX14_goes 18 = .ok (.ifCond .eq 10, 3) := dk_153 0 10 (dk_at dksX14_goes_0 18 rfl rfl)
theorem dX14_goes_21 : decode cX14_goes 21 = .ok (.aload_n 0, 1) := dk_42 (dk_at dksX14_goes_0 21 rfl rfl)
theorem dX14_goes_22 : decode cX14_goes 22 = .ok (.invokevirtual 105, 3) := dk_182 0 105 (dk_at dksX14_goes_1 0 rfl rfl)
theorem dX14_goes_25 : decode cX14_goes 25 = .ok (.ifCond .eq 7, 3) := dk_153 0 7 (dk_at dksX14_goes_1 3 rfl rfl)
theorem dX14_goes_28 : decode cX14_goes 28 = .ok (.iconst 1, 1) := dk_4 (dk_at dksX14_goes_1 6 rfl rfl)
theorem dX14_goes_29 : decode cX14_goes 29 = .ok (.goto 4, 3) := dk_167 0 4 (dk_at dksX14_goes_1 7 rfl rfl)
theorem dX14_goes_32 : decode cX14_goes 32 = .ok (.iconst 0, 1) := dk_3 (dk_at dksX14_goes_1 10 rfl rfl)
theorem dX14_goes_33 : decode cX14_goes 33 = .ok (.ireturn, 1) := dk_172 (dk_at dksX14_goes_1 11 rfl rfl)
theorem dX14_goes_34 : decode cX14_goes 34 = .ok (.aload_n 0, 1) := dk_42 (dk_at dksX14_goes_1 12 rfl rfl)
theorem dX14_goes_35 : decode cX14_goes 35 = .ok (.getfield 18, 3) := dk_180 0 18 (dk_at dksX14_goes_1 13 rfl rfl)
theorem dX14_goes_38 : decode cX14_goes 38 = .ok (.getfield 34, 3) := dk_180 0 34 (dk_at dksX14_goes_1 16 rfl rfl)
theorem dX14_goes_41 : decode cX14_goes 41 = .ok (.iload_n 1, 1) := dk_27 (dk_at dksX14_goes_1 19 rfl rfl)
theorem dX14_goes_42 : decode cX14_goes 42 = .ok (.invokevirtual 44, 3) := dk_182 0 44 (dk_at dksX14_goes_1 20 rfl rfl)
theorem dX14_goes_45 : decode cX14_goes 45 = .ok (.checkcast 48, 3) := dk_192 0 48 (dk_at dksX14_goes_2 0 rfl rfl)
theorem dX14_goes_48 : decode cX14_goes 48 = .ok (.getfield 54, 3) := dk_180 0 54 (dk_at dksX14_goes_2 3 rfl rfl)
theorem dX14_goes_51 : decode cX14_goes 51 = .ok (.invokevirtual 38, 3) := dk_182 0 38 (dk_at dksX14_goes_2 6 rfl rfl)
theorem dX14_goes_54 : decode cX14_goes 54 = .ok (.istore_n 2, 1) := dk_61 (dk_at dksX14_goes_2 9 rfl rfl)
theorem dX14_goes_55 : decode cX14_goes 55 = .ok (.iconst 1, 1) := dk_4 (dk_at dksX14_goes_2 10 rfl rfl)
theorem dX14_goes_56 : decode cX14_goes 56 = .ok (.istore_n 3, 1) := dk_62 (dk_at dksX14_goes_2 11 rfl rfl)
theorem dX14_goes_57 : decode cX14_goes 57 = .ok (.iconst 0, 1) := dk_3 (dk_at dksX14_goes_2 12 rfl rfl)
theorem dX14_goes_58 : decode cX14_goes 58 = .ok (.istore 4, 2) := dk_54 4 (dk_at dksX14_goes_2 13 rfl rfl)
theorem dX14_goes_60 : decode cX14_goes 60 = .ok (.iload 4, 2) := dk_21 4 (dk_at dksX14_goes_2 15 rfl rfl)
theorem dX14_goes_62 : decode cX14_goes 62 = .ok (.iload_n 2, 1) := dk_28 (dk_at dksX14_goes_2 17 rfl rfl)
theorem dX14_goes_63 : decode cX14_goes 63 = .ok (.if_icmp .gt 55, 3) := dk_163 0 55 (dk_at dksX14_goes_2 18 rfl rfl)
theorem dX14_goes_66 : decode cX14_goes 66 = .ok (.iload_n 3, 1) := dk_29 (dk_at dksX14_goes_2 21 rfl rfl)
theorem dX14_goes_67 : decode cX14_goes 67 = .ok (.ifCond .eq 51, 3) := dk_153 0 51 (dk_at dksX14_goes_3 0 rfl rfl)
theorem dX14_goes_70 : decode cX14_goes 70 = .ok (.aload_n 0, 1) := dk_42 (dk_at dksX14_goes_3 3 rfl rfl)
theorem dX14_goes_71 : decode cX14_goes 71 = .ok (.getfield 15, 3) := dk_180 0 15 (dk_at dksX14_goes_3 4 rfl rfl)
theorem dX14_goes_74 : decode cX14_goes 74 = .ok (.iload_n 1, 1) := dk_27 (dk_at dksX14_goes_3 7 rfl rfl)
theorem dX14_goes_75 : decode cX14_goes 75 = .ok (.aload_n 0, 1) := dk_42 (dk_at dksX14_goes_3 8 rfl rfl)
theorem dX14_goes_76 : decode cX14_goes 76 = .ok (.getfield 9, 3) := dk_180 0 9 (dk_at dksX14_goes_3 9 rfl rfl)
theorem dX14_goes_79 : decode cX14_goes 79 = .ok (.bipush 6, 2) := dk_16 6 (dk_at dksX14_goes_3 12 rfl rfl)
theorem dX14_goes_81 : decode cX14_goes 81 = .ok (.iload_n 1, 1) := dk_27 (dk_at dksX14_goes_3 14 rfl rfl)
theorem dX14_goes_82 : decode cX14_goes 82 = .ok (.imul, 1) := dk_104 (dk_at dksX14_goes_3 15 rfl rfl)
theorem dX14_goes_83 : decode cX14_goes 83 = .ok (.iload 4, 2) := dk_21 4 (dk_at dksX14_goes_3 16 rfl rfl)
theorem dX14_goes_85 : decode cX14_goes 85 = .ok (.iadd, 1) := dk_96 (dk_at dksX14_goes_3 18 rfl rfl)
theorem dX14_goes_86 : decode cX14_goes 86 = .ok (.iaload, 1) := dk_46 (dk_at dksX14_goes_3 19 rfl rfl)
theorem dX14_goes_87 : decode cX14_goes 87 = .ok (.iastore, 1) := dk_79 (dk_at dksX14_goes_3 20 rfl rfl)
theorem dX14_goes_88 : decode cX14_goes 88 = .ok (.aload_n 0, 1) := dk_42 (dk_at dksX14_goes_3 21 rfl rfl)
theorem dX14_goes_89 : decode cX14_goes 89 = .ok (.iload_n 1, 1) := dk_27 (dk_at dksX14_goes_3 22 rfl rfl)
theorem dX14_goes_90 : decode cX14_goes 90 = .ok (.invokevirtual 108, 3) := dk_182 0 108 (dk_at dksX14_goes_4 0 rfl rfl)
theorem dX14_goes_93 : decode cX14_goes 93 = .ok (.ifCond .eq 13, 3) := dk_153 0 13 (dk_at dksX14_goes_4 3 rfl rfl)
theorem dX14_goes_96 : decode cX14_goes 96 = .ok (.aload_n 0, 1) := dk_42 (dk_at dksX14_goes_4 6 rfl rfl)
theorem dX14_goes_97 : decode cX14_goes 97 = .ok (.iload_n 1, 1) := dk_27 (dk_at dksX14_goes_4 7 rfl rfl)
theorem dX14_goes_98 : decode cX14_goes 98 = .ok (.iconst 1, 1) := dk_4 (dk_at dksX14_goes_4 8 rfl rfl)
theorem dX14_goes_99 : decode cX14_goes 99 = .ok (.iadd, 1) := dk_96 (dk_at dksX14_goes_4 9 rfl rfl)
theorem dX14_goes_100 : decode cX14_goes 100 = .ok (.invokevirtual 112, 3) := dk_182 0 112 (dk_at dksX14_goes_4 10 rfl rfl)
theorem dX14_goes_103 : decode cX14_goes 103 = .ok (.ifCond .eq 7, 3) := dk_153 0 7 (dk_at dksX14_goes_4 13 rfl rfl)
theorem dX14_goes_106 : decode cX14_goes 106 = .ok (.iconst 1, 1) := dk_4 (dk_at dksX14_goes_4 16 rfl rfl)
theorem dX14_goes_107 : decode cX14_goes 107 = .ok (.goto 4, 3) := dk_167 0 4 (dk_at dksX14_goes_4 17 rfl rfl)
theorem dX14_goes_110 : decode cX14_goes 110 = .ok (.iconst 0, 1) := dk_3 (dk_at dksX14_goes_4 20 rfl rfl)
theorem dX14_goes_111 : decode cX14_goes 111 = .ok (.istore_n 3, 1) := dk_62 (dk_at dksX14_goes_4 21 rfl rfl)
theorem dX14_goes_112 : decode cX14_goes 112 = .ok (.iinc 4 1, 3) := dk_132 4 1 (dk_at dksX14_goes_5 0 rfl rfl)
theorem dX14_goes_115 : decode cX14_goes 115 = .ok (.goto (-55), 3) := dk_167 255 201 (dk_at dksX14_goes_5 3 rfl rfl)
theorem dX14_goes_118 : decode cX14_goes 118 = .ok (.iload_n 3, 1) := dk_29 (dk_at dksX14_goes_5 6 rfl rfl)
theorem dX14_goes_119 : decode cX14_goes 119 = .ok (.ireturn, 1) := dk_172 (dk_at dksX14_goes_5 7 rfl rfl)
abbrev cX14_areReached : ByteArray := prog_16_method_7_code
def yX14_areReached : MethodName := ⟨RX14, "areReached", "()Z"⟩
def dkwX14_areReached_2 : List UInt8 := [167, 255, 219, 4, 172]
abbrev dktX14_areReached_2 : List UInt8 := dkwX14_areReached_2 ++ []
def dkwX14_areReached_1 : List UInt8 := [180, 0, 15, 28, 46, 8, 159, 0, 13, 27, 28, 184, 0, 76, 154, 0, 5, 3, 172, 132, 2, 1]
abbrev dktX14_areReached_1 : List UInt8 := dkwX14_areReached_1 ++ dktX14_areReached_2
def dkwX14_areReached_0 : List UInt8 := [42, 182, 0, 98, 60, 3, 61, 28, 42, 180, 0, 18, 180, 0, 34, 182, 0, 38, 162, 0, 29, 42]
abbrev dktX14_areReached_0 : List UInt8 := dkwX14_areReached_0 ++ dktX14_areReached_1
theorem dksX14_areReached_0 : cX14_areReached.data.toList.drop 0 = dktX14_areReached_0 := by decide +kernel
theorem dksX14_areReached_1 : cX14_areReached.data.toList.drop 22 = dktX14_areReached_1 := dk_seg dksX14_areReached_0 22 rfl rfl
theorem dksX14_areReached_2 : cX14_areReached.data.toList.drop 44 = dktX14_areReached_2 := dk_seg dksX14_areReached_1 22 rfl rfl
theorem dX14_areReached_0 : decode cX14_areReached 0 = .ok (.aload_n 0, 1) := dk_42 (dk_at dksX14_areReached_0 0 rfl rfl)
theorem dX14_areReached_1 : decode cX14_areReached 1 = .ok (.invokevirtual 98, 3) := dk_182 0 98 (dk_at dksX14_areReached_0 1 rfl rfl)
theorem dX14_areReached_4 : decode cX14_areReached 4 = .ok (.istore_n 1, 1) := dk_60 (dk_at dksX14_areReached_0 4 rfl rfl)
theorem dX14_areReached_5 : decode cX14_areReached 5 = .ok (.iconst 0, 1) := dk_3 (dk_at dksX14_areReached_0 5 rfl rfl)
theorem dX14_areReached_6 : decode cX14_areReached 6 = .ok (.istore_n 2, 1) := dk_61 (dk_at dksX14_areReached_0 6 rfl rfl)
theorem dX14_areReached_7 : decode cX14_areReached 7 = .ok (.iload_n 2, 1) := dk_28 (dk_at dksX14_areReached_0 7 rfl rfl)
theorem dX14_areReached_8 : decode cX14_areReached 8 = .ok (.aload_n 0, 1) := dk_42 (dk_at dksX14_areReached_0 8 rfl rfl)
theorem dX14_areReached_9 : decode cX14_areReached 9 = .ok (.getfield 18, 3) := dk_180 0 18 (dk_at dksX14_areReached_0 9 rfl rfl)
theorem dX14_areReached_12 : decode cX14_areReached 12 = .ok (.getfield 34, 3) := dk_180 0 34 (dk_at dksX14_areReached_0 12 rfl rfl)
theorem dX14_areReached_15 : decode cX14_areReached 15 = .ok (.invokevirtual 38, 3) := dk_182 0 38 (dk_at dksX14_areReached_0 15 rfl rfl)
theorem dX14_areReached_18 : decode cX14_areReached 18 = .ok (.if_icmp .ge 29, 3) := dk_162 0 29 (dk_at dksX14_areReached_0 18 rfl rfl)
theorem dX14_areReached_21 : decode cX14_areReached 21 = .ok (.aload_n 0, 1) := dk_42 (dk_at dksX14_areReached_0 21 rfl rfl)
theorem dX14_areReached_22 : decode cX14_areReached 22 = .ok (.getfield 15, 3) := dk_180 0 15 (dk_at dksX14_areReached_1 0 rfl rfl)
theorem dX14_areReached_25 : decode cX14_areReached 25 = .ok (.iload_n 2, 1) := dk_28 (dk_at dksX14_areReached_1 3 rfl rfl)
theorem dX14_areReached_26 : decode cX14_areReached 26 = .ok (.iaload, 1) := dk_46 (dk_at dksX14_areReached_1 4 rfl rfl)
theorem dX14_areReached_27 : decode cX14_areReached 27 = .ok (.iconst 5, 1) := dk_8 (dk_at dksX14_areReached_1 5 rfl rfl)
theorem dX14_areReached_28 : decode cX14_areReached 28 = .ok (.if_icmp .eq 13, 3) := dk_159 0 13 (dk_at dksX14_areReached_1 6 rfl rfl)
theorem dX14_areReached_31 : decode cX14_areReached 31 = .ok (.iload_n 1, 1) := dk_27 (dk_at dksX14_areReached_1 9 rfl rfl)
theorem dX14_areReached_32 : decode cX14_areReached 32 = .ok (.iload_n 2, 1) := dk_28 (dk_at dksX14_areReached_1 10 rfl rfl)
theorem dX14_areReached_33 : decode cX14_areReached 33 = .ok (.invokestatic 76, 3) := dk_184 0 76 (dk_at dksX14_areReached_1 11 rfl rfl)
theorem dX14_areReached_36 : decode cX14_areReached 36 = .ok (.ifCond .ne 5, 3) := dk_154 0 5 (dk_at dksX14_areReached_1 14 rfl rfl)
theorem dX14_areReached_39 : decode cX14_areReached 39 = .ok (.iconst 0, 1) := dk_3 (dk_at dksX14_areReached_1 17 rfl rfl)
theorem dX14_areReached_40 : decode cX14_areReached 40 = .ok (.ireturn, 1) := dk_172 (dk_at dksX14_areReached_1 18 rfl rfl)
theorem dX14_areReached_41 : decode cX14_areReached 41 = .ok (.iinc 2 1, 3) := dk_132 2 1 (dk_at dksX14_areReached_1 19 rfl rfl)
theorem dX14_areReached_44 : decode cX14_areReached 44 = .ok (.goto (-37), 3) := dk_167 255 219 (dk_at dksX14_areReached_2 0 rfl rfl)
theorem dX14_areReached_47 : decode cX14_areReached 47 = .ok (.iconst 1, 1) := dk_4 (dk_at dksX14_areReached_2 3 rfl rfl)
theorem dX14_areReached_48 : decode cX14_areReached 48 = .ok (.ireturn, 1) := dk_172 (dk_at dksX14_areReached_2 4 rfl rfl)
abbrev cX14_reached : ByteArray := prog_16_method_5_code
def yX14_reached : MethodName := ⟨RX14, "reached", "()I"⟩
def dkwX14_reached_2 : List UInt8 := [192, 0, 74, 28, 182, 0, 87, 128, 60, 132, 3, 1, 167, 255, 211, 167, 255, 199, 27, 172]
abbrev dktX14_reached_2 : List UInt8 := dkwX14_reached_2 ++ []
def dkwX14_reached_1 : List UInt8 := [180, 0, 22, 29, 184, 0, 76, 153, 0, 25, 27, 42, 42, 180, 0, 18, 180, 0, 72, 29, 182, 0, 44]
abbrev dktX14_reached_1 : List UInt8 := dkwX14_reached_1 ++ dktX14_reached_2
def dkwX14_reached_0 : List UInt8 := [3, 60, 2, 61, 27, 28, 159, 0, 58, 27, 61, 3, 62, 29, 42, 180, 0, 32, 190, 162, 0, 42, 42]
abbrev dktX14_reached_0 : List UInt8 := dkwX14_reached_0 ++ dktX14_reached_1
theorem dksX14_reached_0 : cX14_reached.data.toList.drop 0 = dktX14_reached_0 := by decide +kernel
theorem dksX14_reached_1 : cX14_reached.data.toList.drop 23 = dktX14_reached_1 := dk_seg dksX14_reached_0 23 rfl rfl
theorem dksX14_reached_2 : cX14_reached.data.toList.drop 46 = dktX14_reached_2 := dk_seg dksX14_reached_1 23 rfl rfl
theorem dX14_reached_0 : decode cX14_reached 0 = .ok (.iconst 0, 1) := dk_3 (dk_at dksX14_reached_0 0 rfl rfl)
theorem dX14_reached_1 : decode cX14_reached 1 = .ok (.istore_n 1, 1) := dk_60 (dk_at dksX14_reached_0 1 rfl rfl)
theorem dX14_reached_2 : decode cX14_reached 2 = .ok (.iconst (-1), 1) := dk_2 (dk_at dksX14_reached_0 2 rfl rfl)
theorem dX14_reached_3 : decode cX14_reached 3 = .ok (.istore_n 2, 1) := dk_61 (dk_at dksX14_reached_0 3 rfl rfl)
theorem dX14_reached_4 : decode cX14_reached 4 = .ok (.iload_n 1, 1) := dk_27 (dk_at dksX14_reached_0 4 rfl rfl)
theorem dX14_reached_5 : decode cX14_reached 5 = .ok (.iload_n 2, 1) := dk_28 (dk_at dksX14_reached_0 5 rfl rfl)
theorem dX14_reached_6 : decode cX14_reached 6 = .ok (.if_icmp .eq 58, 3) := dk_159 0 58 (dk_at dksX14_reached_0 6 rfl rfl)
theorem dX14_reached_9 : decode cX14_reached 9 = .ok (.iload_n 1, 1) := dk_27 (dk_at dksX14_reached_0 9 rfl rfl)
theorem dX14_reached_10 : decode cX14_reached 10 = .ok (.istore_n 2, 1) := dk_61 (dk_at dksX14_reached_0 10 rfl rfl)
theorem dX14_reached_11 : decode cX14_reached 11 = .ok (.iconst 0, 1) := dk_3 (dk_at dksX14_reached_0 11 rfl rfl)
theorem dX14_reached_12 : decode cX14_reached 12 = .ok (.istore_n 3, 1) := dk_62 (dk_at dksX14_reached_0 12 rfl rfl)
theorem dX14_reached_13 : decode cX14_reached 13 = .ok (.iload_n 3, 1) := dk_29 (dk_at dksX14_reached_0 13 rfl rfl)
theorem dX14_reached_14 : decode cX14_reached 14 = .ok (.aload_n 0, 1) := dk_42 (dk_at dksX14_reached_0 14 rfl rfl)
theorem dX14_reached_15 : decode cX14_reached 15 = .ok (.getfield 32, 3) := dk_180 0 32 (dk_at dksX14_reached_0 15 rfl rfl)
theorem dX14_reached_18 : decode cX14_reached 18 = .ok (.arraylength, 1) := dk_190 (dk_at dksX14_reached_0 18 rfl rfl)
theorem dX14_reached_19 : decode cX14_reached 19 = .ok (.if_icmp .ge 42, 3) := dk_162 0 42 (dk_at dksX14_reached_0 19 rfl rfl)
theorem dX14_reached_22 : decode cX14_reached 22 = .ok (.aload_n 0, 1) := dk_42 (dk_at dksX14_reached_0 22 rfl rfl)
theorem dX14_reached_23 : decode cX14_reached 23 = .ok (.getfield 22, 3) := dk_180 0 22 (dk_at dksX14_reached_1 0 rfl rfl)
theorem dX14_reached_26 : decode cX14_reached 26 = .ok (.iload_n 3, 1) := dk_29 (dk_at dksX14_reached_1 3 rfl rfl)
theorem dX14_reached_27 : decode cX14_reached 27 = .ok (.invokestatic 76, 3) := dk_184 0 76 (dk_at dksX14_reached_1 4 rfl rfl)
theorem dX14_reached_30 : decode cX14_reached 30 = .ok (.ifCond .eq 25, 3) := dk_153 0 25 (dk_at dksX14_reached_1 7 rfl rfl)
theorem dX14_reached_33 : decode cX14_reached 33 = .ok (.iload_n 1, 1) := dk_27 (dk_at dksX14_reached_1 10 rfl rfl)
theorem dX14_reached_34 : decode cX14_reached 34 = .ok (.aload_n 0, 1) := dk_42 (dk_at dksX14_reached_1 11 rfl rfl)
theorem dX14_reached_35 : decode cX14_reached 35 = .ok (.aload_n 0, 1) := dk_42 (dk_at dksX14_reached_1 12 rfl rfl)
theorem dX14_reached_36 : decode cX14_reached 36 = .ok (.getfield 18, 3) := dk_180 0 18 (dk_at dksX14_reached_1 13 rfl rfl)
theorem dX14_reached_39 : decode cX14_reached 39 = .ok (.getfield 72, 3) := dk_180 0 72 (dk_at dksX14_reached_1 16 rfl rfl)
theorem dX14_reached_42 : decode cX14_reached 42 = .ok (.iload_n 3, 1) := dk_29 (dk_at dksX14_reached_1 19 rfl rfl)
theorem dX14_reached_43 : decode cX14_reached 43 = .ok (.invokevirtual 44, 3) := dk_182 0 44 (dk_at dksX14_reached_1 20 rfl rfl)
theorem dX14_reached_46 : decode cX14_reached 46 = .ok (.checkcast 74, 3) := dk_192 0 74 (dk_at dksX14_reached_2 0 rfl rfl)
theorem dX14_reached_49 : decode cX14_reached 49 = .ok (.iload_n 2, 1) := dk_28 (dk_at dksX14_reached_2 3 rfl rfl)
theorem dX14_reached_50 : decode cX14_reached 50 = .ok (.invokevirtual 87, 3) := dk_182 0 87 (dk_at dksX14_reached_2 4 rfl rfl)
theorem dX14_reached_53 : decode cX14_reached 53 = .ok (.ior, 1) := dk_128 (dk_at dksX14_reached_2 7 rfl rfl)
theorem dX14_reached_54 : decode cX14_reached 54 = .ok (.istore_n 1, 1) := dk_60 (dk_at dksX14_reached_2 8 rfl rfl)
theorem dX14_reached_55 : decode cX14_reached 55 = .ok (.iinc 3 1, 3) := dk_132 3 1 (dk_at dksX14_reached_2 9 rfl rfl)
theorem dX14_reached_58 : decode cX14_reached 58 = .ok (.goto (-45), 3) := dk_167 255 211 (dk_at dksX14_reached_2 12 rfl rfl)
theorem dX14_reached_61 : decode cX14_reached 61 = .ok (.goto (-57), 3) := dk_167 255 199 (dk_at dksX14_reached_2 15 rfl rfl)
theorem dX14_reached_64 : decode cX14_reached 64 = .ok (.iload_n 1, 1) := dk_27 (dk_at dksX14_reached_2 18 rfl rfl)
theorem dX14_reached_65 : decode cX14_reached 65 = .ok (.ireturn, 1) := dk_172 (dk_at dksX14_reached_2 19 rfl rfl)
abbrev cX14_reachedBy : ByteArray := prog_16_method_6_code
def yX14_reachedBy : MethodName := ⟨RX14, "reachedBy", "(LVersionSolver$Rule;I)I"⟩
def dkwX14_reachedBy_3 : List UInt8 := [21, 5, 120, 167, 0, 4, 3, 128, 62, 132, 4, 1, 167, 255, 194, 29, 172]
abbrev dktX14_reachedBy_3 : List UInt8 := dkwX14_reachedBy_3 ++ []
def dkwX14_reachedBy_2 : List UInt8 := [42, 180, 0, 15, 21, 4, 46, 182, 0, 94, 167, 0, 4, 2, 54, 5, 29, 21, 5, 155, 0, 10, 4]
abbrev dktX14_reachedBy_2 : List UInt8 := dkwX14_reachedBy_2 ++ dktX14_reachedBy_3
def dkwX14_reachedBy_1 : List UInt8 := [180, 0, 18, 180, 0, 34, 182, 0, 38, 162, 0, 53, 28, 21, 4, 184, 0, 76, 153, 0, 19, 43, 21, 4]
abbrev dktX14_reachedBy_1 : List UInt8 := dkwX14_reachedBy_1 ++ dktX14_reachedBy_2
def dkwX14_reachedBy_0 : List UInt8 := [43, 182, 0, 91, 155, 0, 10, 4, 43, 182, 0, 91, 120, 172, 3, 62, 3, 54, 4, 21, 4, 42]
abbrev dktX14_reachedBy_0 : List UInt8 := dkwX14_reachedBy_0 ++ dktX14_reachedBy_1
theorem dksX14_reachedBy_0 : cX14_reachedBy.data.toList.drop 0 = dktX14_reachedBy_0 := by decide +kernel
theorem dksX14_reachedBy_1 : cX14_reachedBy.data.toList.drop 22 = dktX14_reachedBy_1 := dk_seg dksX14_reachedBy_0 22 rfl rfl
theorem dksX14_reachedBy_2 : cX14_reachedBy.data.toList.drop 46 = dktX14_reachedBy_2 := dk_seg dksX14_reachedBy_1 24 rfl rfl
theorem dksX14_reachedBy_3 : cX14_reachedBy.data.toList.drop 69 = dktX14_reachedBy_3 := dk_seg dksX14_reachedBy_2 23 rfl rfl
theorem dX14_reachedBy_0 : decode cX14_reachedBy 0 = .ok (.aload_n 1, 1) := dk_43 (dk_at dksX14_reachedBy_0 0 rfl rfl)
theorem dX14_reachedBy_1 : decode cX14_reachedBy 1 = .ok (.invokevirtual 91, 3) := dk_182 0 91 (dk_at dksX14_reachedBy_0 1 rfl rfl)
theorem dX14_reachedBy_4 : decode cX14_reachedBy 4 = .ok (.ifCond .lt 10, 3) := dk_155 0 10 (dk_at dksX14_reachedBy_0 4 rfl rfl)
theorem dX14_reachedBy_7 : decode cX14_reachedBy 7 = .ok (.iconst 1, 1) := dk_4 (dk_at dksX14_reachedBy_0 7 rfl rfl)
theorem dX14_reachedBy_8 : decode cX14_reachedBy 8 = .ok (.aload_n 1, 1) := dk_43 (dk_at dksX14_reachedBy_0 8 rfl rfl)
theorem dX14_reachedBy_9 : decode cX14_reachedBy 9 = .ok (.invokevirtual 91, 3) := dk_182 0 91 (dk_at dksX14_reachedBy_0 9 rfl rfl)
theorem dX14_reachedBy_12 : decode cX14_reachedBy 12 = .ok (.ishl, 1) := dk_120 (dk_at dksX14_reachedBy_0 12 rfl rfl)
theorem dX14_reachedBy_13 : decode cX14_reachedBy 13 = .ok (.ireturn, 1) := dk_172 (dk_at dksX14_reachedBy_0 13 rfl rfl)
theorem dX14_reachedBy_14 : decode cX14_reachedBy 14 = .ok (.iconst 0, 1) := dk_3 (dk_at dksX14_reachedBy_0 14 rfl rfl)
theorem dX14_reachedBy_15 : decode cX14_reachedBy 15 = .ok (.istore_n 3, 1) := dk_62 (dk_at dksX14_reachedBy_0 15 rfl rfl)
theorem dX14_reachedBy_16 : decode cX14_reachedBy 16 = .ok (.iconst 0, 1) := dk_3 (dk_at dksX14_reachedBy_0 16 rfl rfl)
theorem dX14_reachedBy_17 : decode cX14_reachedBy 17 = .ok (.istore 4, 2) := dk_54 4 (dk_at dksX14_reachedBy_0 17 rfl rfl)
theorem dX14_reachedBy_19 : decode cX14_reachedBy 19 = .ok (.iload 4, 2) := dk_21 4 (dk_at dksX14_reachedBy_0 19 rfl rfl)
theorem dX14_reachedBy_21 : decode cX14_reachedBy 21 = .ok (.aload_n 0, 1) := dk_42 (dk_at dksX14_reachedBy_0 21 rfl rfl)
theorem dX14_reachedBy_22 : decode cX14_reachedBy 22 = .ok (.getfield 18, 3) := dk_180 0 18 (dk_at dksX14_reachedBy_1 0 rfl rfl)
theorem dX14_reachedBy_25 : decode cX14_reachedBy 25 = .ok (.getfield 34, 3) := dk_180 0 34 (dk_at dksX14_reachedBy_1 3 rfl rfl)
theorem dX14_reachedBy_28 : decode cX14_reachedBy 28 = .ok (.invokevirtual 38, 3) := dk_182 0 38 (dk_at dksX14_reachedBy_1 6 rfl rfl)
theorem dX14_reachedBy_31 : decode cX14_reachedBy 31 = .ok (.if_icmp .ge 53, 3) := dk_162 0 53 (dk_at dksX14_reachedBy_1 9 rfl rfl)
theorem dX14_reachedBy_34 : decode cX14_reachedBy 34 = .ok (.iload_n 2, 1) := dk_28 (dk_at dksX14_reachedBy_1 12 rfl rfl)
theorem dX14_reachedBy_35 : decode cX14_reachedBy 35 = .ok (.iload 4, 2) := dk_21 4 (dk_at dksX14_reachedBy_1 13 rfl rfl)
theorem dX14_reachedBy_37 : decode cX14_reachedBy 37 = .ok (.invokestatic 76, 3) := dk_184 0 76 (dk_at dksX14_reachedBy_1 15 rfl rfl)
theorem dX14_reachedBy_40 : decode cX14_reachedBy 40 = .ok (.ifCond .eq 19, 3) := dk_153 0 19 (dk_at dksX14_reachedBy_1 18 rfl rfl)
theorem dX14_reachedBy_43 : decode cX14_reachedBy 43 = .ok (.aload_n 1, 1) := dk_43 (dk_at dksX14_reachedBy_1 21 rfl rfl)
theorem dX14_reachedBy_44 : decode cX14_reachedBy 44 = .ok (.iload 4, 2) := dk_21 4 (dk_at dksX14_reachedBy_1 22 rfl rfl)
theorem dX14_reachedBy_46 : decode cX14_reachedBy 46 = .ok (.aload_n 0, 1) := dk_42 (dk_at dksX14_reachedBy_2 0 rfl rfl)
theorem dX14_reachedBy_47 : decode cX14_reachedBy 47 = .ok (.getfield 15, 3) := dk_180 0 15 (dk_at dksX14_reachedBy_2 1 rfl rfl)
theorem dX14_reachedBy_50 : decode cX14_reachedBy 50 = .ok (.iload 4, 2) := dk_21 4 (dk_at dksX14_reachedBy_2 4 rfl rfl)
theorem dX14_reachedBy_52 : decode cX14_reachedBy 52 = .ok (.iaload, 1) := dk_46 (dk_at dksX14_reachedBy_2 6 rfl rfl)
theorem dX14_reachedBy_53 : decode cX14_reachedBy 53 = .ok (.invokevirtual 94, 3) := dk_182 0 94 (dk_at dksX14_reachedBy_2 7 rfl rfl)
theorem dX14_reachedBy_56 : decode cX14_reachedBy 56 = .ok (.goto 4, 3) := dk_167 0 4 (dk_at dksX14_reachedBy_2 10 rfl rfl)
theorem dX14_reachedBy_59 : decode cX14_reachedBy 59 = .ok (.iconst (-1), 1) := dk_2 (dk_at dksX14_reachedBy_2 13 rfl rfl)
theorem dX14_reachedBy_60 : decode cX14_reachedBy 60 = .ok (.istore 5, 2) := dk_54 5 (dk_at dksX14_reachedBy_2 14 rfl rfl)
theorem dX14_reachedBy_62 : decode cX14_reachedBy 62 = .ok (.iload_n 3, 1) := dk_29 (dk_at dksX14_reachedBy_2 16 rfl rfl)
theorem dX14_reachedBy_63 : decode cX14_reachedBy 63 = .ok (.iload 5, 2) := dk_21 5 (dk_at dksX14_reachedBy_2 17 rfl rfl)
theorem dX14_reachedBy_65 : decode cX14_reachedBy 65 = .ok (.ifCond .lt 10, 3) := dk_155 0 10 (dk_at dksX14_reachedBy_2 19 rfl rfl)
theorem dX14_reachedBy_68 : decode cX14_reachedBy 68 = .ok (.iconst 1, 1) := dk_4 (dk_at dksX14_reachedBy_2 22 rfl rfl)
theorem dX14_reachedBy_69 : decode cX14_reachedBy 69 = .ok (.iload 5, 2) := dk_21 5 (dk_at dksX14_reachedBy_3 0 rfl rfl)
theorem dX14_reachedBy_71 : decode cX14_reachedBy 71 = .ok (.ishl, 1) := dk_120 (dk_at dksX14_reachedBy_3 2 rfl rfl)
theorem dX14_reachedBy_72 : decode cX14_reachedBy 72 = .ok (.goto 4, 3) := dk_167 0 4 (dk_at dksX14_reachedBy_3 3 rfl rfl)
theorem dX14_reachedBy_75 : decode cX14_reachedBy 75 = .ok (.iconst 0, 1) := dk_3 (dk_at dksX14_reachedBy_3 6 rfl rfl)
theorem dX14_reachedBy_76 : decode cX14_reachedBy 76 = .ok (.ior, 1) := dk_128 (dk_at dksX14_reachedBy_3 7 rfl rfl)
theorem dX14_reachedBy_77 : decode cX14_reachedBy 77 = .ok (.istore_n 3, 1) := dk_62 (dk_at dksX14_reachedBy_3 8 rfl rfl)
theorem dX14_reachedBy_78 : decode cX14_reachedBy 78 = .ok (.iinc 4 1, 3) := dk_132 4 1 (dk_at dksX14_reachedBy_3 9 rfl rfl)
theorem dX14_reachedBy_81 : decode cX14_reachedBy 81 = .ok (.goto (-62), 3) := dk_167 255 194 (dk_at dksX14_reachedBy_3 12 rfl rfl)
theorem dX14_reachedBy_84 : decode cX14_reachedBy 84 = .ok (.iload_n 3, 1) := dk_29 (dk_at dksX14_reachedBy_3 15 rfl rfl)
theorem dX14_reachedBy_85 : decode cX14_reachedBy 85 = .ok (.ireturn, 1) := dk_172 (dk_at dksX14_reachedBy_3 16 rfl rfl)
abbrev cX14_isAllowed : ByteArray := prog_16_method_4_code
def yX14_isAllowed : MethodName := ⟨RX14, "isAllowed", "(I)Z"⟩
def dkwX14_isAllowed_5 : List UInt8 := [182, 0, 83, 154, 0, 5, 3, 172, 132, 2, 1, 167, 255, 191, 4, 172]
abbrev dktX14_isAllowed_5 : List UInt8 := dkwX14_isAllowed_5 ++ []
def dkwX14_isAllowed_4 : List UInt8 := [153, 0, 30, 45, 182, 0, 80, 27, 160, 0, 22, 45, 42, 180, 0, 32, 28, 46, 42, 180, 0, 15]
abbrev dktX14_isAllowed_4 : List UInt8 := dkwX14_isAllowed_4 ++ dktX14_isAllowed_5
def dkwX14_isAllowed_3 : List UInt8 := [180, 0, 18, 180, 0, 72, 28, 182, 0, 44, 192, 0, 74, 78, 42, 180, 0, 22, 28, 184, 0, 76]
abbrev dktX14_isAllowed_3 : List UInt8 := dkwX14_isAllowed_3 ++ dktX14_isAllowed_4
def dkwX14_isAllowed_2 : List UInt8 := [46, 159, 0, 5, 3, 172, 132, 2, 1, 167, 255, 201, 3, 61, 28, 42, 180, 0, 32, 190, 162, 0, 62, 42]
abbrev dktX14_isAllowed_2 : List UInt8 := dkwX14_isAllowed_2 ++ dktX14_isAllowed_3
def dkwX14_isAllowed_1 : List UInt8 := [182, 0, 44, 192, 0, 64, 78, 45, 180, 0, 66, 27, 160, 0, 18, 45, 180, 0, 69, 42, 180, 0, 15, 27]
abbrev dktX14_isAllowed_1 : List UInt8 := dkwX14_isAllowed_1 ++ dktX14_isAllowed_2
def dkwX14_isAllowed_0 : List UInt8 := [3, 61, 28, 42, 180, 0, 18, 180, 0, 61, 182, 0, 38, 162, 0, 47, 42, 180, 0, 18, 180, 0, 61, 28]
abbrev dktX14_isAllowed_0 : List UInt8 := dkwX14_isAllowed_0 ++ dktX14_isAllowed_1
theorem dksX14_isAllowed_0 : cX14_isAllowed.data.toList.drop 0 = dktX14_isAllowed_0 := by decide +kernel
theorem dksX14_isAllowed_1 : cX14_isAllowed.data.toList.drop 24 = dktX14_isAllowed_1 := dk_seg dksX14_isAllowed_0 24 rfl rfl
theorem dksX14_isAllowed_2 : cX14_isAllowed.data.toList.drop 48 = dktX14_isAllowed_2 := dk_seg dksX14_isAllowed_1 24 rfl rfl
theorem dksX14_isAllowed_3 : cX14_isAllowed.data.toList.drop 72 = dktX14_isAllowed_3 := dk_seg dksX14_isAllowed_2 24 rfl rfl
theorem dksX14_isAllowed_4 : cX14_isAllowed.data.toList.drop 94 = dktX14_isAllowed_4 := dk_seg dksX14_isAllowed_3 22 rfl rfl
theorem dksX14_isAllowed_5 : cX14_isAllowed.data.toList.drop 116 = dktX14_isAllowed_5 := dk_seg dksX14_isAllowed_4 22 rfl rfl
theorem dX14_isAllowed_0 : decode cX14_isAllowed 0 = .ok (.iconst 0, 1) := dk_3 (dk_at dksX14_isAllowed_0 0 rfl rfl)
theorem dX14_isAllowed_1 : decode cX14_isAllowed 1 = .ok (.istore_n 2, 1) := dk_61 (dk_at dksX14_isAllowed_0 1 rfl rfl)
theorem dX14_isAllowed_2 : decode cX14_isAllowed 2 = .ok (.iload_n 2, 1) := dk_28 (dk_at dksX14_isAllowed_0 2 rfl rfl)
theorem dX14_isAllowed_3 : decode cX14_isAllowed 3 = .ok (.aload_n 0, 1) := dk_42 (dk_at dksX14_isAllowed_0 3 rfl rfl)
theorem dX14_isAllowed_4 : decode cX14_isAllowed 4 = .ok (.getfield 18, 3) := dk_180 0 18 (dk_at dksX14_isAllowed_0 4 rfl rfl)
theorem dX14_isAllowed_7 : decode cX14_isAllowed 7 = .ok (.getfield 61, 3) := dk_180 0 61 (dk_at dksX14_isAllowed_0 7 rfl rfl)
theorem dX14_isAllowed_10 : decode cX14_isAllowed 10 = .ok (.invokevirtual 38, 3) := dk_182 0 38 (dk_at dksX14_isAllowed_0 10 rfl rfl)
theorem dX14_isAllowed_13 : decode cX14_isAllowed 13 = .ok (.if_icmp .ge 47, 3) := dk_162 0 47 (dk_at dksX14_isAllowed_0 13 rfl rfl)
theorem dX14_isAllowed_16 : decode cX14_isAllowed 16 = .ok (.aload_n 0, 1) := dk_42 (dk_at dksX14_isAllowed_0 16 rfl rfl)
theorem dX14_isAllowed_17 : decode cX14_isAllowed 17 = .ok (.getfield 18, 3) := dk_180 0 18 (dk_at dksX14_isAllowed_0 17 rfl rfl)
theorem dX14_isAllowed_20 : decode cX14_isAllowed 20 = .ok (.getfield 61, 3) := dk_180 0 61 (dk_at dksX14_isAllowed_0 20 rfl rfl)
theorem dX14_isAllowed_23 : decode cX14_isAllowed 23 = .ok (.iload_n 2, 1) := dk_28 (dk_at dksX14_isAllowed_0 23 rfl rfl)
theorem dX14_isAllowed_24 : decode cX14_isAllowed 24 = .ok (.invokevirtual 44, 3) := dk_182 0 44 (dk_at dksX14_isAllowed_1 0 rfl rfl)
theorem dX14_isAllowed_27 : decode cX14_isAllowed 27 = .ok (.checkcast 64, 3) := dk_192 0 64 (dk_at dksX14_isAllowed_1 3 rfl rfl)
theorem dX14_isAllowed_30 : decode cX14_isAllowed 30 = .ok (.astore_n 3, 1) := dk_78 (dk_at dksX14_isAllowed_1 6 rfl rfl)
theorem dX14_isAllowed_31 : decode cX14_isAllowed 31 = .ok (.aload_n 3, 1) := dk_45 (dk_at dksX14_isAllowed_1 7 rfl rfl)
theorem dX14_isAllowed_32 : decode cX14_isAllowed 32 = .ok (.getfield 66, 3) := dk_180 0 66 (dk_at dksX14_isAllowed_1 8 rfl rfl)
theorem dX14_isAllowed_35 : decode cX14_isAllowed 35 = .ok (.iload_n 1, 1) := dk_27 (dk_at dksX14_isAllowed_1 11 rfl rfl)
theorem dX14_isAllowed_36 : decode cX14_isAllowed 36 = .ok (.if_icmp .ne 18, 3) := dk_160 0 18 (dk_at dksX14_isAllowed_1 12 rfl rfl)
theorem dX14_isAllowed_39 : decode cX14_isAllowed 39 = .ok (.aload_n 3, 1) := dk_45 (dk_at dksX14_isAllowed_1 15 rfl rfl)
theorem dX14_isAllowed_40 : decode cX14_isAllowed 40 = .ok (.getfield 69, 3) := dk_180 0 69 (dk_at dksX14_isAllowed_1 16 rfl rfl)
theorem dX14_isAllowed_43 : decode cX14_isAllowed 43 = .ok (.aload_n 0, 1) := dk_42 (dk_at dksX14_isAllowed_1 19 rfl rfl)
theorem dX14_isAllowed_44 : decode cX14_isAllowed 44 = .ok (.getfield 15, 3) := dk_180 0 15 (dk_at dksX14_isAllowed_1 20 rfl rfl)
theorem dX14_isAllowed_47 : decode cX14_isAllowed 47 = .ok (.iload_n 1, 1) := dk_27 (dk_at dksX14_isAllowed_1 23 rfl rfl)
theorem dX14_isAllowed_48 : decode cX14_isAllowed 48 = .ok (.iaload, 1) := dk_46 (dk_at dksX14_isAllowed_2 0 rfl rfl)
theorem dX14_isAllowed_49 : decode cX14_isAllowed 49 = .ok (.if_icmp .eq 5, 3) := dk_159 0 5 (dk_at dksX14_isAllowed_2 1 rfl rfl)
theorem dX14_isAllowed_52 : decode cX14_isAllowed 52 = .ok (.iconst 0, 1) := dk_3 (dk_at dksX14_isAllowed_2 4 rfl rfl)
theorem dX14_isAllowed_53 : decode cX14_isAllowed 53 = .ok (.ireturn, 1) := dk_172 (dk_at dksX14_isAllowed_2 5 rfl rfl)
theorem dX14_isAllowed_54 : decode cX14_isAllowed 54 = .ok (.iinc 2 1, 3) := dk_132 2 1 (dk_at dksX14_isAllowed_2 6 rfl rfl)
theorem dX14_isAllowed_57 : decode cX14_isAllowed 57 = .ok (.goto (-55), 3) := dk_167 255 201 (dk_at dksX14_isAllowed_2 9 rfl rfl)
theorem dX14_isAllowed_60 : decode cX14_isAllowed 60 = .ok (.iconst 0, 1) := dk_3 (dk_at dksX14_isAllowed_2 12 rfl rfl)
theorem dX14_isAllowed_61 : decode cX14_isAllowed 61 = .ok (.istore_n 2, 1) := dk_61 (dk_at dksX14_isAllowed_2 13 rfl rfl)
theorem dX14_isAllowed_62 : decode cX14_isAllowed 62 = .ok (.iload_n 2, 1) := dk_28 (dk_at dksX14_isAllowed_2 14 rfl rfl)
theorem dX14_isAllowed_63 : decode cX14_isAllowed 63 = .ok (.aload_n 0, 1) := dk_42 (dk_at dksX14_isAllowed_2 15 rfl rfl)
theorem dX14_isAllowed_64 : decode cX14_isAllowed 64 = .ok (.getfield 32, 3) := dk_180 0 32 (dk_at dksX14_isAllowed_2 16 rfl rfl)
theorem dX14_isAllowed_67 : decode cX14_isAllowed 67 = .ok (.arraylength, 1) := dk_190 (dk_at dksX14_isAllowed_2 19 rfl rfl)
theorem dX14_isAllowed_68 : decode cX14_isAllowed 68 = .ok (.if_icmp .ge 62, 3) := dk_162 0 62 (dk_at dksX14_isAllowed_2 20 rfl rfl)
theorem dX14_isAllowed_71 : decode cX14_isAllowed 71 = .ok (.aload_n 0, 1) := dk_42 (dk_at dksX14_isAllowed_2 23 rfl rfl)
theorem dX14_isAllowed_72 : decode cX14_isAllowed 72 = .ok (.getfield 18, 3) := dk_180 0 18 (dk_at dksX14_isAllowed_3 0 rfl rfl)
theorem dX14_isAllowed_75 : decode cX14_isAllowed 75 = .ok (.getfield 72, 3) := dk_180 0 72 (dk_at dksX14_isAllowed_3 3 rfl rfl)
theorem dX14_isAllowed_78 : decode cX14_isAllowed 78 = .ok (.iload_n 2, 1) := dk_28 (dk_at dksX14_isAllowed_3 6 rfl rfl)
theorem dX14_isAllowed_79 : decode cX14_isAllowed 79 = .ok (.invokevirtual 44, 3) := dk_182 0 44 (dk_at dksX14_isAllowed_3 7 rfl rfl)
theorem dX14_isAllowed_82 : decode cX14_isAllowed 82 = .ok (.checkcast 74, 3) := dk_192 0 74 (dk_at dksX14_isAllowed_3 10 rfl rfl)
theorem dX14_isAllowed_85 : decode cX14_isAllowed 85 = .ok (.astore_n 3, 1) := dk_78 (dk_at dksX14_isAllowed_3 13 rfl rfl)
theorem dX14_isAllowed_86 : decode cX14_isAllowed 86 = .ok (.aload_n 0, 1) := dk_42 (dk_at dksX14_isAllowed_3 14 rfl rfl)
theorem dX14_isAllowed_87 : decode cX14_isAllowed 87 = .ok (.getfield 22, 3) := dk_180 0 22 (dk_at dksX14_isAllowed_3 15 rfl rfl)
theorem dX14_isAllowed_90 : decode cX14_isAllowed 90 = .ok (.iload_n 2, 1) := dk_28 (dk_at dksX14_isAllowed_3 18 rfl rfl)
theorem dX14_isAllowed_91 : decode cX14_isAllowed 91 = .ok (.invokestatic 76, 3) := dk_184 0 76 (dk_at dksX14_isAllowed_3 19 rfl rfl)
theorem dX14_isAllowed_94 : decode cX14_isAllowed 94 = .ok (.ifCond .eq 30, 3) := dk_153 0 30 (dk_at dksX14_isAllowed_4 0 rfl rfl)
theorem dX14_isAllowed_97 : decode cX14_isAllowed 97 = .ok (.aload_n 3, 1) := dk_45 (dk_at dksX14_isAllowed_4 3 rfl rfl)
theorem dX14_isAllowed_98 : decode cX14_isAllowed 98 = .ok (.invokevirtual 80, 3) := dk_182 0 80 (dk_at dksX14_isAllowed_4 4 rfl rfl)
theorem dX14_isAllowed_101 : decode cX14_isAllowed 101 = .ok (.iload_n 1, 1) := dk_27 (dk_at dksX14_isAllowed_4 7 rfl rfl)
theorem dX14_isAllowed_102 : decode cX14_isAllowed 102 = .ok (.if_icmp .ne 22, 3) := dk_160 0 22 (dk_at dksX14_isAllowed_4 8 rfl rfl)
theorem dX14_isAllowed_105 : decode cX14_isAllowed 105 = .ok (.aload_n 3, 1) := dk_45 (dk_at dksX14_isAllowed_4 11 rfl rfl)
theorem dX14_isAllowed_106 : decode cX14_isAllowed 106 = .ok (.aload_n 0, 1) := dk_42 (dk_at dksX14_isAllowed_4 12 rfl rfl)
theorem dX14_isAllowed_107 : decode cX14_isAllowed 107 = .ok (.getfield 32, 3) := dk_180 0 32 (dk_at dksX14_isAllowed_4 13 rfl rfl)
theorem dX14_isAllowed_110 : decode cX14_isAllowed 110 = .ok (.iload_n 2, 1) := dk_28 (dk_at dksX14_isAllowed_4 16 rfl rfl)
theorem dX14_isAllowed_111 : decode cX14_isAllowed 111 = .ok (.iaload, 1) := dk_46 (dk_at dksX14_isAllowed_4 17 rfl rfl)
theorem dX14_isAllowed_112 : decode cX14_isAllowed 112 = .ok (.aload_n 0, 1) := dk_42 (dk_at dksX14_isAllowed_4 18 rfl rfl)
theorem dX14_isAllowed_113 : decode cX14_isAllowed 113 = .ok (.getfield 15, 3) := dk_180 0 15 (dk_at dksX14_isAllowed_4 19 rfl rfl)
theorem dX14_isAllowed_116 : decode cX14_isAllowed 116 = .ok (.invokevirtual 83, 3) := dk_182 0 83 (dk_at dksX14_isAllowed_5 0 rfl rfl)
theorem dX14_isAllowed_119 : decode cX14_isAllowed 119 = .ok (.ifCond .ne 5, 3) := dk_154 0 5 (dk_at dksX14_isAllowed_5 3 rfl rfl)
theorem dX14_isAllowed_122 : decode cX14_isAllowed 122 = .ok (.iconst 0, 1) := dk_3 (dk_at dksX14_isAllowed_5 6 rfl rfl)
theorem dX14_isAllowed_123 : decode cX14_isAllowed 123 = .ok (.ireturn, 1) := dk_172 (dk_at dksX14_isAllowed_5 7 rfl rfl)
theorem dX14_isAllowed_124 : decode cX14_isAllowed 124 = .ok (.iinc 2 1, 3) := dk_132 2 1 (dk_at dksX14_isAllowed_5 8 rfl rfl)
theorem dX14_isAllowed_127 : decode cX14_isAllowed 127 = .ok (.goto (-65), 3) := dk_167 255 191 (dk_at dksX14_isAllowed_5 11 rfl rfl)
theorem dX14_isAllowed_130 : decode cX14_isAllowed 130 = .ok (.iconst 1, 1) := dk_4 (dk_at dksX14_isAllowed_5 14 rfl rfl)
theorem dX14_isAllowed_131 : decode cX14_isAllowed 131 = .ok (.ireturn, 1) := dk_172 (dk_at dksX14_isAllowed_5 15 rfl rfl)
theorem q122 : (Jvm.Cond.initialized "VersionSolver$Search") ∈ lw_all := lw_g (lw_at lw_m1 33 rfl) rfl
theorem q181 : (Jvm.Cond.fieldLinkNest "VersionSolver$Search" (34 : Nat) "VersionSolver$Board" "packs" "Ljava/util/ArrayList;" "VersionSolver") ∈ lw_tbl := lw_at lw_m1 92 rfl
theorem q187 : (Jvm.Cond.fieldLinkNest "VersionSolver$Search" (72 : Nat) "VersionSolver$Board" "rules" "Ljava/util/ArrayList;" "VersionSolver") ∈ lw_tbl := lw_at lw_m1 98 rfl
theorem q191 : (Jvm.Cond.fieldLinkNest "VersionSolver$Search" (61 : Nat) "VersionSolver$Board" "assumptions" "Ljava/util/ArrayList;" "VersionSolver") ∈ lw_tbl := lw_at lw_m1 102 rfl
theorem q353 : (Jvm.Cond.fieldLinkNest "VersionSolver$Search" (54 : Nat) "VersionSolver$Pack" "versions" "Ljava/util/ArrayList;" "VersionSolver") ∈ lw_tbl := lw_at lw_m2 24 rfl
theorem q1114 : (Jvm.Cond.fieldLinkNest "VersionSolver$Search" (66 : Nat) "VersionSolver$Assumption" "pack" "I" "VersionSolver") ∈ lw_tbl := lw_at lw_m5 65 rfl
theorem q1120 : (Jvm.Cond.fieldLinkNest "VersionSolver$Search" (69 : Nat) "VersionSolver$Assumption" "state" "I" "VersionSolver") ∈ lw_tbl := lw_at lw_m5 71 rfl
theorem q1185 : (Jvm.Cond.instanceMethod ({ cls := "VersionSolver$Search", name := "<init>", desc := "(LVersionSolver$Board;I)V" } : Jvm.MethodName)) ∈ lw_all := lw_g (lw_at lw_m5 136 rfl) rfl
theorem q1186 : (Jvm.Cond.code ({ cls := "VersionSolver$Search", name := "<init>", desc := "(LVersionSolver$Board;I)V" } : Jvm.MethodName) prog_16_method_1_code (4 : Nat) (Option.none : Option Jvm.ClassFile.FieldType)) ∈ lw_all := lw_g (lw_at lw_m5 137 rfl) rfl
theorem q1187 : (Jvm.Cond.methodLink "VersionSolver$Search" (3 : Nat) ({ cls := "java/lang/Object", name := "<init>", desc := "()V" } : Jvm.MethodName)) ∈ lw_all := lw_g (lw_at lw_m5 138 rfl) rfl
theorem q1188 : (Jvm.Cond.methodLink "VersionSolver$Search" (26 : Nat) ({ cls := "VersionSolver$Board", name := "masks", desc := "()[I" } : Jvm.MethodName)) ∈ lw_all := lw_g (lw_at lw_m5 139 rfl) rfl
theorem q1189 : (Jvm.Cond.methodLink "VersionSolver$Search" (38 : Nat) ({ cls := "java/util/ArrayList", name := "size", desc := "()I" } : Jvm.MethodName)) ∈ lw_all := lw_g (lw_at lw_m5 140 rfl) rfl
theorem q1190 : (Jvm.Cond.methodLink "VersionSolver$Search" (44 : Nat) ({ cls := "java/util/ArrayList", name := "get", desc := "(I)Ljava/lang/Object;" } : Jvm.MethodName)) ∈ lw_all := lw_g (lw_at lw_m5 141 rfl) rfl
theorem q1191 : (Jvm.Cond.classLink "VersionSolver$Search" (48 : Nat) "VersionSolver$Pack") ∈ lw_all := lw_g (lw_at lw_m5 142 rfl) rfl
theorem q1192 : (Jvm.Cond.methodLink "VersionSolver$Search" (50 : Nat) ({ cls := "VersionSolver$Search", name := "orders", desc := "(LVersionSolver$Pack;I)V" } : Jvm.MethodName)) ∈ lw_all := lw_g (lw_at lw_m5 143 rfl) rfl
theorem q1193 : (Jvm.Cond.privateMethod ({ cls := "VersionSolver$Search", name := "orders", desc := "(LVersionSolver$Pack;I)V" } : Jvm.MethodName)) ∈ lw_tbl := lw_at lw_m5 144 rfl
theorem q1194 : (Jvm.Cond.instanceMethod ({ cls := "VersionSolver$Search", name := "orders", desc := "(LVersionSolver$Pack;I)V" } : Jvm.MethodName)) ∈ lw_all := lw_g (lw_at lw_m5 145 rfl) rfl
theorem q1195 : (Jvm.Cond.code ({ cls := "VersionSolver$Search", name := "orders", desc := "(LVersionSolver$Pack;I)V" } : Jvm.MethodName) prog_16_method_2_code (5 : Nat) (Option.none : Option Jvm.ClassFile.FieldType)) ∈ lw_all := lw_g (lw_at lw_m5 146 rfl) rfl
theorem q1196 : (Jvm.Cond.methodLink "VersionSolver$Search" (57 : Nat) ({ cls := "VersionSolver$Pack", name := "placeOf", desc := "(I)I" } : Jvm.MethodName)) ∈ lw_all := lw_g (lw_at lw_m5 147 rfl) rfl
theorem q1198 : (Jvm.Cond.fieldLink "VersionSolver$Search" (18 : Nat) "VersionSolver$Search" "board" "LVersionSolver$Board;") ∈ lw_all := lw_g (lw_at lw_m5 149 rfl) rfl
theorem q1199 : (Jvm.Cond.fieldLink "VersionSolver$Search" (32 : Nat) "VersionSolver$Search" "masks" "[I") ∈ lw_all := lw_g (lw_at lw_m5 150 rfl) rfl
theorem q1200 : (Jvm.Cond.fieldLink "VersionSolver$Search" (9 : Nat) "VersionSolver$Search" "order" "[I") ∈ lw_all := lw_g (lw_at lw_m5 151 rfl) rfl
theorem q1201 : (Jvm.Cond.fieldLink "VersionSolver$Search" (22 : Nat) "VersionSolver$Search" "rules" "I") ∈ lw_all := lw_g (lw_at lw_m5 152 rfl) rfl
theorem q1202 : (Jvm.Cond.fieldLink "VersionSolver$Search" (15 : Nat) "VersionSolver$Search" "states" "[I") ∈ lw_all := lw_g (lw_at lw_m5 153 rfl) rfl
theorem q1212 : (Jvm.Cond.soleField "VersionSolver$Search" "board") ∈ lw_all := lw_g (lw_at lw_m5 163 rfl) rfl
theorem q1214 : (Jvm.Cond.soleField "VersionSolver$Search" "masks") ∈ lw_all := lw_g (lw_at lw_m5 165 rfl) rfl
theorem q1216 : (Jvm.Cond.soleField "VersionSolver$Search" "order") ∈ lw_all := lw_g (lw_at lw_m5 167 rfl) rfl
theorem q1218 : (Jvm.Cond.soleField "VersionSolver$Search" "rules") ∈ lw_all := lw_g (lw_at lw_m5 169 rfl) rfl
theorem q1220 : (Jvm.Cond.soleField "VersionSolver$Search" "states") ∈ lw_all := lw_g (lw_at lw_m5 171 rfl) rfl
theorem q1228 : (Jvm.Cond.declares ({ cls := "VersionSolver$Search", name := "goes", desc := "(I)Z" } : Jvm.MethodName)) ∈ lw_tbl := lw_at lw_m5 179 rfl
theorem q1230 : (Jvm.Cond.instanceMethod ({ cls := "VersionSolver$Search", name := "goes", desc := "(I)Z" } : Jvm.MethodName)) ∈ lw_all := lw_g (lw_at lw_m5 181 rfl) rfl
theorem q1231 : (Jvm.Cond.code ({ cls := "VersionSolver$Search", name := "goes", desc := "(I)Z" } : Jvm.MethodName) prog_16_method_8_code (5 : Nat) (Option.some Jvm.ClassFile.FieldType.boolean)) ∈ lw_all := lw_g (lw_at lw_m5 182 rfl) rfl
theorem q1232 : (Jvm.Cond.methodLink "VersionSolver$Search" (101 : Nat) ({ cls := "VersionSolver$Search", name := "areReached", desc := "()Z" } : Jvm.MethodName)) ∈ lw_all := lw_g (lw_at lw_m5 183 rfl) rfl
theorem q1233 : (Jvm.Cond.privateMethod ({ cls := "VersionSolver$Search", name := "areReached", desc := "()Z" } : Jvm.MethodName)) ∈ lw_tbl := lw_at lw_m5 184 rfl
theorem q1234 : (Jvm.Cond.instanceMethod ({ cls := "VersionSolver$Search", name := "areReached", desc := "()Z" } : Jvm.MethodName)) ∈ lw_all := lw_g (lw_at lw_m5 185 rfl) rfl
theorem q1235 : (Jvm.Cond.code ({ cls := "VersionSolver$Search", name := "areReached", desc := "()Z" } : Jvm.MethodName) prog_16_method_7_code (3 : Nat) (Option.some Jvm.ClassFile.FieldType.boolean)) ∈ lw_all := lw_g (lw_at lw_m5 186 rfl) rfl
theorem q1236 : (Jvm.Cond.methodLink "VersionSolver$Search" (98 : Nat) ({ cls := "VersionSolver$Search", name := "reached", desc := "()I" } : Jvm.MethodName)) ∈ lw_all := lw_g (lw_at lw_m5 187 rfl) rfl
theorem q1237 : (Jvm.Cond.instanceMethod ({ cls := "VersionSolver$Search", name := "reached", desc := "()I" } : Jvm.MethodName)) ∈ lw_all := lw_g (lw_at lw_m5 188 rfl) rfl
theorem q1238 : (Jvm.Cond.sameMethod "VersionSolver$Search" "VersionSolver$Search" "reached" "()I") ∈ lw_all := lw_g (lw_at lw_m5 189 rfl) rfl
theorem q1243 : (Jvm.Cond.code ({ cls := "VersionSolver$Search", name := "reached", desc := "()I" } : Jvm.MethodName) prog_16_method_5_code (4 : Nat) (Option.some Jvm.ClassFile.FieldType.int)) ∈ lw_all := lw_g (lw_at lw_m5 194 rfl) rfl
theorem q1244 : (Jvm.Cond.methodLinkNest "VersionSolver$Search" (76 : Nat) ({ cls := "VersionSolver", name := "has", desc := "(II)Z" } : Jvm.MethodName) "VersionSolver") ∈ lw_tbl := lw_at lw_m5 195 rfl
theorem q1245 : (Jvm.Cond.classLink "VersionSolver$Search" (74 : Nat) "VersionSolver$Rule") ∈ lw_all := lw_g (lw_at lw_m5 196 rfl) rfl
theorem q1246 : (Jvm.Cond.methodLink "VersionSolver$Search" (87 : Nat) ({ cls := "VersionSolver$Search", name := "reachedBy", desc := "(LVersionSolver$Rule;I)I" } : Jvm.MethodName)) ∈ lw_all := lw_g (lw_at lw_m5 197 rfl) rfl
theorem q1247 : (Jvm.Cond.privateMethod ({ cls := "VersionSolver$Search", name := "reachedBy", desc := "(LVersionSolver$Rule;I)I" } : Jvm.MethodName)) ∈ lw_tbl := lw_at lw_m5 198 rfl
theorem q1248 : (Jvm.Cond.instanceMethod ({ cls := "VersionSolver$Search", name := "reachedBy", desc := "(LVersionSolver$Rule;I)I" } : Jvm.MethodName)) ∈ lw_all := lw_g (lw_at lw_m5 199 rfl) rfl
theorem q1249 : (Jvm.Cond.code ({ cls := "VersionSolver$Search", name := "reachedBy", desc := "(LVersionSolver$Rule;I)I" } : Jvm.MethodName) prog_16_method_6_code (6 : Nat) (Option.some Jvm.ClassFile.FieldType.int)) ∈ lw_all := lw_g (lw_at lw_m5 200 rfl) rfl
theorem q1250 : (Jvm.Cond.methodLink "VersionSolver$Search" (91 : Nat) ({ cls := "VersionSolver$Rule", name := "wanted", desc := "()I" } : Jvm.MethodName)) ∈ lw_all := lw_g (lw_at lw_m5 201 rfl) rfl
theorem q1260 : (Jvm.Cond.methodLink "VersionSolver$Search" (94 : Nat) ({ cls := "VersionSolver$Rule", name := "reaches", desc := "(II)I" } : Jvm.MethodName)) ∈ lw_all := lw_g (lw_at lw_m5 211 rfl) rfl
theorem q1278 : (Jvm.Cond.methodLink "VersionSolver$Search" (105 : Nat) ({ cls := "VersionSolver$Search", name := "finds", desc := "()Z" } : Jvm.MethodName)) ∈ lw_all := lw_g (lw_at lw_m5 229 rfl) rfl
theorem q1279 : (Jvm.Cond.declares ({ cls := "VersionSolver$Search", name := "finds", desc := "()Z" } : Jvm.MethodName)) ∈ lw_tbl := lw_at lw_m5 230 rfl
theorem q1280 : (Jvm.Cond.sameMethod "VersionSolver$Search" "VersionSolver$Search" "finds" "()Z") ∈ lw_all := lw_g (lw_at lw_m5 231 rfl) rfl
theorem q1293 : (Jvm.Cond.methodLink "VersionSolver$Search" (108 : Nat) ({ cls := "VersionSolver$Search", name := "isAllowed", desc := "(I)Z" } : Jvm.MethodName)) ∈ lw_all := lw_g (lw_at lw_m6 4 rfl) rfl
theorem q1294 : (Jvm.Cond.privateMethod ({ cls := "VersionSolver$Search", name := "isAllowed", desc := "(I)Z" } : Jvm.MethodName)) ∈ lw_tbl := lw_at lw_m6 5 rfl
theorem q1295 : (Jvm.Cond.instanceMethod ({ cls := "VersionSolver$Search", name := "isAllowed", desc := "(I)Z" } : Jvm.MethodName)) ∈ lw_all := lw_g (lw_at lw_m6 6 rfl) rfl
theorem q1296 : (Jvm.Cond.code ({ cls := "VersionSolver$Search", name := "isAllowed", desc := "(I)Z" } : Jvm.MethodName) prog_16_method_4_code (4 : Nat) (Option.some Jvm.ClassFile.FieldType.boolean)) ∈ lw_all := lw_g (lw_at lw_m6 7 rfl) rfl
theorem q1297 : (Jvm.Cond.classLink "VersionSolver$Search" (64 : Nat) "VersionSolver$Assumption") ∈ lw_all := lw_g (lw_at lw_m6 8 rfl) rfl
theorem q1298 : (Jvm.Cond.methodLink "VersionSolver$Search" (80 : Nat) ({ cls := "VersionSolver$Rule", name := "last", desc := "()I" } : Jvm.MethodName)) ∈ lw_all := lw_g (lw_at lw_m6 9 rfl) rfl
theorem q1312 : (Jvm.Cond.methodLink "VersionSolver$Search" (83 : Nat) ({ cls := "VersionSolver$Rule", name := "isKept", desc := "(I[I)Z" } : Jvm.MethodName)) ∈ lw_all := lw_g (lw_at lw_m6 23 rfl) rfl
theorem q1327 : (Jvm.Cond.methodLink "VersionSolver$Search" (112 : Nat) ({ cls := "VersionSolver$Search", name := "goes", desc := "(I)Z" } : Jvm.MethodName)) ∈ lw_all := lw_g (lw_at lw_m6 38 rfl) rfl
theorem q1394 : (Jvm.Cond.declares ({ cls := "VersionSolver$Search", name := "reached", desc := "()I" } : Jvm.MethodName)) ∈ lw_tbl := lw_at lw_m6 105 rfl
theorem q2472 : (Jvm.Cond.sameMethod "VersionSolver$Search" "VersionSolver$Search" "orders" "(LVersionSolver$Pack;I)V") ∈ lw_all := lw_g (lw_at lw_m10 223 rfl) rfl
theorem q2473 : (Jvm.Cond.sameMethod "VersionSolver$Search" "VersionSolver$Search" "areReached" "()Z") ∈ lw_all := lw_g (lw_at lw_m10 224 rfl) rfl
theorem q2474 : (Jvm.Cond.sameMethod "VersionSolver$Search" "VersionSolver$Search" "reachedBy" "(LVersionSolver$Rule;I)I") ∈ lw_all := lw_g (lw_at lw_m10 225 rfl) rfl
theorem q2475 : (Jvm.Cond.sameMethod "VersionSolver$Search" "VersionSolver$Search" "isAllowed" "(I)Z") ∈ lw_all := lw_g (lw_at lw_m10 226 rfl) rfl
theorem q2476 : (Jvm.Cond.sameMethod "VersionSolver$Search" "VersionSolver$Search" "goes" "(I)Z") ∈ lw_all := lw_g (lw_at lw_m10 227 rfl) rfl
/-! VersionSolver$Counting -/
set_option maxRecDepth 100000
def RX15 : String := "VersionSolver$Counting"
def TX15 : u_T := fun k => match k with
  | 0 => ("VersionSolver$Search", "board", "LVersionSolver$Board;", true)
  | 1 => ("VersionSolver$Search", "masks", "[I", true)
  | 2 => ("VersionSolver$Search", "order", "[I", true)
  | 3 => ("VersionSolver$Search", "rules", "I", true)
  | 4 => ("VersionSolver$Search", "states", "[I", true)
  | _ => ("VersionSolver$Counting", "many", "I", false)
def tyX15 : Nat → FieldType := fun k => match k with
  | 0 => .object "VersionSolver$Board"
  | 1 => .array .int
  | 2 => .array .int
  | 3 => .int
  | 4 => .array .int
  | _ => .int
abbrev wsX150 : List Cond := u_ws RX15 TX15 6
theorem nmX15 : ∀ a, a < 6 → ∀ b, b < 6 → a ≠ b → (TX15 a).2.1 ≠ (TX15 b).2.1 := by decide +kernel
theorem tyX15_ok : ∀ k, k < 6 → parseFieldDescriptor (TX15 k).2.2.1 = some (tyX15 k) := by decide +kernel
abbrev cX15_init : ByteArray := prog_5_method_1_code
def yX15_init : MethodName := ⟨RX15, "<init>", "(LVersionSolver$Board;I)V"⟩
def dkwX15_init_0 : List UInt8 := [42, 43, 28, 183, 0, 1, 177]
abbrev dktX15_init_0 : List UInt8 := dkwX15_init_0 ++ []
theorem dksX15_init_0 : cX15_init.data.toList.drop 0 = dktX15_init_0 := by decide +kernel
theorem dX15_init_0 : decode cX15_init 0 = .ok (.aload_n 0, 1) := dk_42 (dk_at dksX15_init_0 0 rfl rfl)
theorem dX15_init_1 : decode cX15_init 1 = .ok (.aload_n 1, 1) := dk_43 (dk_at dksX15_init_0 1 rfl rfl)
theorem dX15_init_2 : decode cX15_init 2 = .ok (.iload_n 2, 1) := dk_28 (dk_at dksX15_init_0 2 rfl rfl)
theorem dX15_init_3 : decode cX15_init 3 = .ok (.invokespecial 1, 3) := dk_183 0 1 (dk_at dksX15_init_0 3 rfl rfl)
theorem dX15_init_6 : decode cX15_init 6 = .ok (.return_, 1) := dk_177 (dk_at dksX15_init_0 6 rfl rfl)
abbrev cX15_all : ByteArray := prog_5_method_3_code
def yX15_all : MethodName := ⟨RX15, "all", "()I"⟩
def dkwX15_all_0 : List UInt8 := [42, 3, 182, 0, 13, 60, 42, 180, 0, 7, 172]
abbrev dktX15_all_0 : List UInt8 := dkwX15_all_0 ++ []
theorem dksX15_all_0 : cX15_all.data.toList.drop 0 = dktX15_all_0 := by decide +kernel
theorem dX15_all_0 : decode cX15_all 0 = .ok (.aload_n 0, 1) := dk_42 (dk_at dksX15_all_0 0 rfl rfl)
theorem dX15_all_1 : decode cX15_all 1 = .ok (.iconst 0, 1) := dk_3 (dk_at dksX15_all_0 1 rfl rfl)
theorem dX15_all_2 : decode cX15_all 2 = .ok (.invokevirtual 13, 3) := dk_182 0 13 (dk_at dksX15_all_0 2 rfl rfl)
theorem dX15_all_5 : decode cX15_all 5 = .ok (.istore_n 1, 1) := dk_60 (dk_at dksX15_all_0 5 rfl rfl)
theorem dX15_all_6 : decode cX15_all 6 = .ok (.aload_n 0, 1) := dk_42 (dk_at dksX15_all_0 6 rfl rfl)
theorem dX15_all_7 : decode cX15_all 7 = .ok (.getfield 7, 3) := dk_180 0 7 (dk_at dksX15_all_0 7 rfl rfl)
theorem dX15_all_10 : decode cX15_all 10 = .ok (.ireturn, 1) := dk_172 (dk_at dksX15_all_0 10 rfl rfl)
abbrev cX15_finds : ByteArray := prog_5_method_2_code
def yX15_finds : MethodName := ⟨RX15, "finds", "()Z"⟩
def dkwX15_finds_0 : List UInt8 := [42, 89, 180, 0, 7, 4, 96, 181, 0, 7, 4, 172]
abbrev dktX15_finds_0 : List UInt8 := dkwX15_finds_0 ++ []
theorem dksX15_finds_0 : cX15_finds.data.toList.drop 0 = dktX15_finds_0 := by decide +kernel
theorem dX15_finds_0 : decode cX15_finds 0 = .ok (.aload_n 0, 1) := dk_42 (dk_at dksX15_finds_0 0 rfl rfl)
theorem dX15_finds_1 : decode cX15_finds 1 = .ok (.dup, 1) := dk_89 (dk_at dksX15_finds_0 1 rfl rfl)
theorem dX15_finds_2 : decode cX15_finds 2 = .ok (.getfield 7, 3) := dk_180 0 7 (dk_at dksX15_finds_0 2 rfl rfl)
theorem dX15_finds_5 : decode cX15_finds 5 = .ok (.iconst 1, 1) := dk_4 (dk_at dksX15_finds_0 5 rfl rfl)
theorem dX15_finds_6 : decode cX15_finds 6 = .ok (.iadd, 1) := dk_96 (dk_at dksX15_finds_0 6 rfl rfl)
theorem dX15_finds_7 : decode cX15_finds 7 = .ok (.putfield 7, 3) := dk_181 0 7 (dk_at dksX15_finds_0 7 rfl rfl)
theorem dX15_finds_10 : decode cX15_finds 10 = .ok (.iconst 1, 1) := dk_4 (dk_at dksX15_finds_0 10 rfl rfl)
theorem dX15_finds_11 : decode cX15_finds 11 = .ok (.ireturn, 1) := dk_172 (dk_at dksX15_finds_0 11 rfl rfl)
theorem q123 : (Jvm.Cond.initialized "VersionSolver$Counting") ∈ lw_all := lw_g (lw_at lw_m1 34 rfl) rfl
theorem q409 : (Jvm.Cond.selects "VersionSolver$Counting" ({ cls := "java/lang/Object", name := "getClass", desc := "()Ljava/lang/Class;" } : Jvm.MethodName) ({ cls := "java/lang/Object", name := "getClass", desc := "()Ljava/lang/Class;" } : Jvm.MethodName)) ∈ lw_all := lw_g (lw_at lw_m2 80 rfl) rfl
theorem q1176 : (Jvm.Cond.instantiable "VersionSolver$Counting" (6 : Nat)) ∈ lw_all := lw_g (lw_at lw_m5 127 rfl) rfl
theorem q1182 : (Jvm.Cond.instanceMethod ({ cls := "VersionSolver$Counting", name := "<init>", desc := "(LVersionSolver$Board;I)V" } : Jvm.MethodName)) ∈ lw_all := lw_g (lw_at lw_m5 133 rfl) rfl
theorem q1183 : (Jvm.Cond.code ({ cls := "VersionSolver$Counting", name := "<init>", desc := "(LVersionSolver$Board;I)V" } : Jvm.MethodName) prog_5_method_1_code (3 : Nat) (Option.none : Option Jvm.ClassFile.FieldType)) ∈ lw_all := lw_g (lw_at lw_m5 134 rfl) rfl
theorem q1184 : (Jvm.Cond.methodLink "VersionSolver$Counting" (1 : Nat) ({ cls := "VersionSolver$Search", name := "<init>", desc := "(LVersionSolver$Board;I)V" } : Jvm.MethodName)) ∈ lw_all := lw_g (lw_at lw_m5 135 rfl) rfl
theorem q1197 : (Jvm.Cond.fieldLink "VersionSolver$Counting" (7 : Nat) "VersionSolver$Counting" "many" "I") ∈ lw_all := lw_g (lw_at lw_m5 148 rfl) rfl
theorem q1209 : (Jvm.Cond.lays "VersionSolver$Counting" "VersionSolver$Counting" "many" "I") ∈ lw_all := lw_g (lw_at lw_m5 160 rfl) rfl
theorem q1210 : (Jvm.Cond.soleField "VersionSolver$Counting" "many") ∈ lw_all := lw_g (lw_at lw_m5 161 rfl) rfl
theorem q1211 : (Jvm.Cond.laysFinal "VersionSolver$Counting" "VersionSolver$Search" "board" "LVersionSolver$Board;") ∈ lw_all := lw_g (lw_at lw_m5 162 rfl) rfl
theorem q1213 : (Jvm.Cond.laysFinal "VersionSolver$Counting" "VersionSolver$Search" "masks" "[I") ∈ lw_all := lw_g (lw_at lw_m5 164 rfl) rfl
theorem q1215 : (Jvm.Cond.laysFinal "VersionSolver$Counting" "VersionSolver$Search" "order" "[I") ∈ lw_all := lw_g (lw_at lw_m5 166 rfl) rfl
theorem q1217 : (Jvm.Cond.laysFinal "VersionSolver$Counting" "VersionSolver$Search" "rules" "I") ∈ lw_all := lw_g (lw_at lw_m5 168 rfl) rfl
theorem q1219 : (Jvm.Cond.laysFinal "VersionSolver$Counting" "VersionSolver$Search" "states" "[I") ∈ lw_all := lw_g (lw_at lw_m5 170 rfl) rfl
theorem q1221 : (Jvm.Cond.superclass "VersionSolver$Counting" "VersionSolver$Search") ∈ lw_all := lw_g (lw_at lw_m5 172 rfl) rfl
theorem q1223 : (Jvm.Cond.instanceMethod ({ cls := "VersionSolver$Counting", name := "all", desc := "()I" } : Jvm.MethodName)) ∈ lw_all := lw_g (lw_at lw_m5 174 rfl) rfl
theorem q1224 : (Jvm.Cond.selects "VersionSolver$Counting" ({ cls := "VersionSolver$Counting", name := "all", desc := "()I" } : Jvm.MethodName) ({ cls := "VersionSolver$Counting", name := "all", desc := "()I" } : Jvm.MethodName)) ∈ lw_all := lw_g (lw_at lw_m5 175 rfl) rfl
theorem q1225 : (Jvm.Cond.code ({ cls := "VersionSolver$Counting", name := "all", desc := "()I" } : Jvm.MethodName) prog_5_method_3_code (2 : Nat) (Option.some Jvm.ClassFile.FieldType.int)) ∈ lw_all := lw_g (lw_at lw_m5 176 rfl) rfl
theorem q1226 : (Jvm.Cond.methodLink "VersionSolver$Counting" (13 : Nat) ({ cls := "VersionSolver$Counting", name := "goes", desc := "(I)Z" } : Jvm.MethodName)) ∈ lw_all := lw_g (lw_at lw_m5 177 rfl) rfl
theorem q1227 : (Jvm.Cond.sameMethod "VersionSolver$Counting" "VersionSolver$Search" "goes" "(I)Z") ∈ lw_all := lw_g (lw_at lw_m5 178 rfl) rfl
theorem q1229 : (Jvm.Cond.selects "VersionSolver$Counting" ({ cls := "VersionSolver$Counting", name := "goes", desc := "(I)Z" } : Jvm.MethodName) ({ cls := "VersionSolver$Search", name := "goes", desc := "(I)Z" } : Jvm.MethodName)) ∈ lw_all := lw_g (lw_at lw_m5 180 rfl) rfl
theorem q1239 : (Jvm.Cond.selects "VersionSolver$Counting" ({ cls := "VersionSolver$Search", name := "reached", desc := "()I" } : Jvm.MethodName) ({ cls := "VersionSolver$Search", name := "reached", desc := "()I" } : Jvm.MethodName)) ∈ lw_all := lw_g (lw_at lw_m5 190 rfl) rfl
theorem q1281 : (Jvm.Cond.selects "VersionSolver$Counting" ({ cls := "VersionSolver$Search", name := "finds", desc := "()Z" } : Jvm.MethodName) ({ cls := "VersionSolver$Counting", name := "finds", desc := "()Z" } : Jvm.MethodName)) ∈ lw_all := lw_g (lw_at lw_m5 232 rfl) rfl
theorem q1282 : (Jvm.Cond.instanceMethod ({ cls := "VersionSolver$Counting", name := "finds", desc := "()Z" } : Jvm.MethodName)) ∈ lw_all := lw_g (lw_at lw_m5 233 rfl) rfl
theorem q1283 : (Jvm.Cond.code ({ cls := "VersionSolver$Counting", name := "finds", desc := "()Z" } : Jvm.MethodName) prog_5_method_2_code (1 : Nat) (Option.some Jvm.ClassFile.FieldType.boolean)) ∈ lw_all := lw_g (lw_at lw_m5 234 rfl) rfl
theorem q2477 : (Jvm.Cond.selects "VersionSolver$Counting" ({ cls := "VersionSolver$Search", name := "goes", desc := "(I)Z" } : Jvm.MethodName) ({ cls := "VersionSolver$Search", name := "goes", desc := "(I)Z" } : Jvm.MethodName)) ∈ lw_all := lw_g (lw_at lw_m10 228 rfl) rfl
theorem q2518 : (Jvm.Cond.castable "VersionSolver$Counting" "java/lang/Object") ∈ lw_tbl := lw_at lw_m11 29 rfl
theorem in_X15 : ∀ w ∈ wsX150, w ∈ lw_all := lw_in wsX150 [1211, 1213, 1215, 1217, 1219, 1209] (by decide +kernel) (by decide +kernel)
/-! VersionSolver$First -/
set_option maxRecDepth 100000
def RX16 : String := "VersionSolver$First"
def TX16 : u_T := fun k => match k with
  | 0 => ("VersionSolver$Search", "board", "LVersionSolver$Board;", true)
  | 1 => ("VersionSolver$Search", "masks", "[I", true)
  | 2 => ("VersionSolver$Search", "order", "[I", true)
  | 3 => ("VersionSolver$Search", "rules", "I", true)
  | _ => ("VersionSolver$Search", "states", "[I", true)
def tyX16 : Nat → FieldType := fun k => match k with
  | 0 => .object "VersionSolver$Board"
  | 1 => .array .int
  | 2 => .array .int
  | 3 => .int
  | _ => .array .int
abbrev wsX160 : List Cond := u_ws RX16 TX16 5
theorem nmX16 : ∀ a, a < 5 → ∀ b, b < 5 → a ≠ b → (TX16 a).2.1 ≠ (TX16 b).2.1 := by decide +kernel
theorem tyX16_ok : ∀ k, k < 5 → parseFieldDescriptor (TX16 k).2.2.1 = some (tyX16 k) := by decide +kernel
abbrev cX16_finds : ByteArray := prog_7_method_2_code
def yX16_finds : MethodName := ⟨RX16, "finds", "()Z"⟩
theorem dX16_finds_0 : decode cX16_finds 0 = .ok (.iconst 0, 1) := by decide +kernel
theorem dX16_finds_1 : decode cX16_finds 1 = .ok (.ireturn, 1) := by decide +kernel
abbrev cX16_init : ByteArray := prog_7_method_1_code
def yX16_init : MethodName := ⟨RX16, "<init>", "(LVersionSolver$Board;I)V"⟩
def dkwX16_init_0 : List UInt8 := [42, 43, 28, 183, 0, 1, 177]
abbrev dktX16_init_0 : List UInt8 := dkwX16_init_0 ++ []
theorem dksX16_init_0 : cX16_init.data.toList.drop 0 = dktX16_init_0 := by decide +kernel
theorem dX16_init_0 : decode cX16_init 0 = .ok (.aload_n 0, 1) := dk_42 (dk_at dksX16_init_0 0 rfl rfl)
theorem dX16_init_1 : decode cX16_init 1 = .ok (.aload_n 1, 1) := dk_43 (dk_at dksX16_init_0 1 rfl rfl)
theorem dX16_init_2 : decode cX16_init 2 = .ok (.iload_n 2, 1) := dk_28 (dk_at dksX16_init_0 2 rfl rfl)
theorem dX16_init_3 : decode cX16_init 3 = .ok (.invokespecial 1, 3) := dk_183 0 1 (dk_at dksX16_init_0 3 rfl rfl)
theorem dX16_init_6 : decode cX16_init 6 = .ok (.return_, 1) := dk_177 (dk_at dksX16_init_0 6 rfl rfl)
abbrev cX16_isThere : ByteArray := prog_7_method_3_code
def yX16_isThere : MethodName := ⟨RX16, "isThere", "()Z"⟩
def dkwX16_isThere_0 : List UInt8 := [42, 3, 182, 0, 7, 154, 0, 7, 4, 167, 0, 4, 3, 172]
abbrev dktX16_isThere_0 : List UInt8 := dkwX16_isThere_0 ++ []
theorem dksX16_isThere_0 : cX16_isThere.data.toList.drop 0 = dktX16_isThere_0 := by decide +kernel
theorem dX16_isThere_0 : decode cX16_isThere 0 = .ok (.aload_n 0, 1) := dk_42 (dk_at dksX16_isThere_0 0 rfl rfl)
theorem dX16_isThere_1 : decode cX16_isThere 1 = .ok (.iconst 0, 1) := dk_3 (dk_at dksX16_isThere_0 1 rfl rfl)
theorem dX16_isThere_2 : decode cX16_isThere 2 = .ok (.invokevirtual 7, 3) := dk_182 0 7 (dk_at dksX16_isThere_0 2 rfl rfl)
theorem dX16_isThere_5 : decode cX16_isThere 5 = .ok (.ifCond .ne 7, 3) := dk_154 0 7 (dk_at dksX16_isThere_0 5 rfl rfl)
theorem dX16_isThere_8 : decode cX16_isThere 8 = .ok (.iconst 1, 1) := dk_4 (dk_at dksX16_isThere_0 8 rfl rfl)
theorem dX16_isThere_9 : decode cX16_isThere 9 = .ok (.goto 4, 3) := dk_167 0 4 (dk_at dksX16_isThere_0 9 rfl rfl)
theorem dX16_isThere_12 : decode cX16_isThere 12 = .ok (.iconst 0, 1) := dk_3 (dk_at dksX16_isThere_0 12 rfl rfl)
theorem dX16_isThere_13 : decode cX16_isThere 13 = .ok (.ireturn, 1) := dk_172 (dk_at dksX16_isThere_0 13 rfl rfl)
abbrev cX16_stateOf : ByteArray := prog_7_method_4_code
def yX16_stateOf : MethodName := ⟨RX16, "stateOf", "(I)I"⟩
def dkwX16_stateOf_0 : List UInt8 := [42, 180, 0, 13, 27, 46, 172]
abbrev dktX16_stateOf_0 : List UInt8 := dkwX16_stateOf_0 ++ []
theorem dksX16_stateOf_0 : cX16_stateOf.data.toList.drop 0 = dktX16_stateOf_0 := by decide +kernel
theorem dX16_stateOf_0 : decode cX16_stateOf 0 = .ok (.aload_n 0, 1) := dk_42 (dk_at dksX16_stateOf_0 0 rfl rfl)
theorem dX16_stateOf_1 : decode cX16_stateOf 1 = .ok (.getfield 13, 3) := dk_180 0 13 (dk_at dksX16_stateOf_0 1 rfl rfl)
theorem dX16_stateOf_4 : decode cX16_stateOf 4 = .ok (.iload_n 1, 1) := dk_27 (dk_at dksX16_stateOf_0 4 rfl rfl)
theorem dX16_stateOf_5 : decode cX16_stateOf 5 = .ok (.iaload, 1) := dk_46 (dk_at dksX16_stateOf_0 5 rfl rfl)
theorem dX16_stateOf_6 : decode cX16_stateOf 6 = .ok (.ireturn, 1) := dk_172 (dk_at dksX16_stateOf_0 6 rfl rfl)
theorem q124 : (Jvm.Cond.initialized "VersionSolver$First") ∈ lw_all := lw_g (lw_at lw_m1 35 rfl) rfl
theorem q411 : (Jvm.Cond.selects "VersionSolver$First" ({ cls := "java/lang/Object", name := "getClass", desc := "()Ljava/lang/Class;" } : Jvm.MethodName) ({ cls := "java/lang/Object", name := "getClass", desc := "()Ljava/lang/Class;" } : Jvm.MethodName)) ∈ lw_all := lw_g (lw_at lw_m2 82 rfl) rfl
theorem q1207 : (Jvm.Cond.fieldLink "VersionSolver$First" (13 : Nat) "VersionSolver$First" "states" "[I") ∈ lw_all := lw_g (lw_at lw_m5 158 rfl) rfl
theorem q1208 : (Jvm.Cond.sameField "VersionSolver$First" "VersionSolver$Search" "states" "[I") ∈ lw_all := lw_g (lw_at lw_m5 159 rfl) rfl
theorem q1240 : (Jvm.Cond.selects "VersionSolver$First" ({ cls := "VersionSolver$Search", name := "reached", desc := "()I" } : Jvm.MethodName) ({ cls := "VersionSolver$Search", name := "reached", desc := "()I" } : Jvm.MethodName)) ∈ lw_all := lw_g (lw_at lw_m5 191 rfl) rfl
theorem q1284 : (Jvm.Cond.selects "VersionSolver$First" ({ cls := "VersionSolver$Search", name := "finds", desc := "()Z" } : Jvm.MethodName) ({ cls := "VersionSolver$First", name := "finds", desc := "()Z" } : Jvm.MethodName)) ∈ lw_all := lw_g (lw_at lw_m5 235 rfl) rfl
theorem q1285 : (Jvm.Cond.instanceMethod ({ cls := "VersionSolver$First", name := "finds", desc := "()Z" } : Jvm.MethodName)) ∈ lw_all := lw_g (lw_at lw_m5 236 rfl) rfl
theorem q1286 : (Jvm.Cond.code ({ cls := "VersionSolver$First", name := "finds", desc := "()Z" } : Jvm.MethodName) prog_7_method_2_code (1 : Nat) (Option.some Jvm.ClassFile.FieldType.boolean)) ∈ lw_all := lw_g (lw_at lw_m5 237 rfl) rfl
theorem q1333 : (Jvm.Cond.instantiable "VersionSolver$First" (5 : Nat)) ∈ lw_all := lw_g (lw_at lw_m6 44 rfl) rfl
theorem q1335 : (Jvm.Cond.instanceMethod ({ cls := "VersionSolver$First", name := "<init>", desc := "(LVersionSolver$Board;I)V" } : Jvm.MethodName)) ∈ lw_all := lw_g (lw_at lw_m6 46 rfl) rfl
theorem q1336 : (Jvm.Cond.code ({ cls := "VersionSolver$First", name := "<init>", desc := "(LVersionSolver$Board;I)V" } : Jvm.MethodName) prog_7_method_1_code (3 : Nat) (Option.none : Option Jvm.ClassFile.FieldType)) ∈ lw_all := lw_g (lw_at lw_m6 47 rfl) rfl
theorem q1337 : (Jvm.Cond.methodLink "VersionSolver$First" (1 : Nat) ({ cls := "VersionSolver$Search", name := "<init>", desc := "(LVersionSolver$Board;I)V" } : Jvm.MethodName)) ∈ lw_all := lw_g (lw_at lw_m6 48 rfl) rfl
theorem q1338 : (Jvm.Cond.laysFinal "VersionSolver$First" "VersionSolver$Search" "board" "LVersionSolver$Board;") ∈ lw_all := lw_g (lw_at lw_m6 49 rfl) rfl
theorem q1339 : (Jvm.Cond.laysFinal "VersionSolver$First" "VersionSolver$Search" "masks" "[I") ∈ lw_all := lw_g (lw_at lw_m6 50 rfl) rfl
theorem q1340 : (Jvm.Cond.laysFinal "VersionSolver$First" "VersionSolver$Search" "order" "[I") ∈ lw_all := lw_g (lw_at lw_m6 51 rfl) rfl
theorem q1341 : (Jvm.Cond.laysFinal "VersionSolver$First" "VersionSolver$Search" "rules" "I") ∈ lw_all := lw_g (lw_at lw_m6 52 rfl) rfl
theorem q1342 : (Jvm.Cond.laysFinal "VersionSolver$First" "VersionSolver$Search" "states" "[I") ∈ lw_all := lw_g (lw_at lw_m6 53 rfl) rfl
theorem q1343 : (Jvm.Cond.superclass "VersionSolver$First" "VersionSolver$Search") ∈ lw_all := lw_g (lw_at lw_m6 54 rfl) rfl
theorem q1345 : (Jvm.Cond.instanceMethod ({ cls := "VersionSolver$First", name := "isThere", desc := "()Z" } : Jvm.MethodName)) ∈ lw_all := lw_g (lw_at lw_m6 56 rfl) rfl
theorem q1346 : (Jvm.Cond.selects "VersionSolver$First" ({ cls := "VersionSolver$First", name := "isThere", desc := "()Z" } : Jvm.MethodName) ({ cls := "VersionSolver$First", name := "isThere", desc := "()Z" } : Jvm.MethodName)) ∈ lw_all := lw_g (lw_at lw_m6 57 rfl) rfl
theorem q1347 : (Jvm.Cond.code ({ cls := "VersionSolver$First", name := "isThere", desc := "()Z" } : Jvm.MethodName) prog_7_method_3_code (1 : Nat) (Option.some Jvm.ClassFile.FieldType.boolean)) ∈ lw_all := lw_g (lw_at lw_m6 58 rfl) rfl
theorem q1348 : (Jvm.Cond.methodLink "VersionSolver$First" (7 : Nat) ({ cls := "VersionSolver$First", name := "goes", desc := "(I)Z" } : Jvm.MethodName)) ∈ lw_all := lw_g (lw_at lw_m6 59 rfl) rfl
theorem q1349 : (Jvm.Cond.sameMethod "VersionSolver$First" "VersionSolver$Search" "goes" "(I)Z") ∈ lw_all := lw_g (lw_at lw_m6 60 rfl) rfl
theorem q1350 : (Jvm.Cond.selects "VersionSolver$First" ({ cls := "VersionSolver$First", name := "goes", desc := "(I)Z" } : Jvm.MethodName) ({ cls := "VersionSolver$Search", name := "goes", desc := "(I)Z" } : Jvm.MethodName)) ∈ lw_all := lw_g (lw_at lw_m6 61 rfl) rfl
theorem q1352 : (Jvm.Cond.instanceMethod ({ cls := "VersionSolver$First", name := "stateOf", desc := "(I)I" } : Jvm.MethodName)) ∈ lw_all := lw_g (lw_at lw_m6 63 rfl) rfl
theorem q1353 : (Jvm.Cond.selects "VersionSolver$First" ({ cls := "VersionSolver$First", name := "stateOf", desc := "(I)I" } : Jvm.MethodName) ({ cls := "VersionSolver$First", name := "stateOf", desc := "(I)I" } : Jvm.MethodName)) ∈ lw_all := lw_g (lw_at lw_m6 64 rfl) rfl
theorem q1354 : (Jvm.Cond.code ({ cls := "VersionSolver$First", name := "stateOf", desc := "(I)I" } : Jvm.MethodName) prog_7_method_4_code (2 : Nat) (Option.some Jvm.ClassFile.FieldType.int)) ∈ lw_all := lw_g (lw_at lw_m6 65 rfl) rfl
theorem q2478 : (Jvm.Cond.selects "VersionSolver$First" ({ cls := "VersionSolver$Search", name := "goes", desc := "(I)Z" } : Jvm.MethodName) ({ cls := "VersionSolver$Search", name := "goes", desc := "(I)Z" } : Jvm.MethodName)) ∈ lw_all := lw_g (lw_at lw_m10 229 rfl) rfl
theorem q2519 : (Jvm.Cond.castable "VersionSolver$First" "java/lang/Object") ∈ lw_tbl := lw_at lw_m11 30 rfl
theorem in_X16 : ∀ w ∈ wsX160, w ∈ lw_all := lw_in wsX160 [1338, 1339, 1340, 1341, 1342] (by decide +kernel) (by decide +kernel)
/-! VersionSolver$Look -/
set_option maxRecDepth 100000
def RX17 : String := "VersionSolver$Look"
def TX17 : u_T := fun k => match k with
  | 0 => ("VersionSolver$Search", "board", "LVersionSolver$Board;", true)
  | 1 => ("VersionSolver$Search", "masks", "[I", true)
  | 2 => ("VersionSolver$Search", "order", "[I", true)
  | 3 => ("VersionSolver$Search", "rules", "I", true)
  | 4 => ("VersionSolver$Search", "states", "[I", true)
  | _ => ("VersionSolver$Look", "this$0", "LVersionSolver;", true)
def tyX17 : Nat → FieldType := fun k => match k with
  | 0 => .object "VersionSolver$Board"
  | 1 => .array .int
  | 2 => .array .int
  | 3 => .int
  | 4 => .array .int
  | _ => .object "VersionSolver"
abbrev wsX170 : List Cond := u_ws RX17 TX17 6
theorem nmX17 : ∀ a, a < 6 → ∀ b, b < 6 → a ≠ b → (TX17 a).2.1 ≠ (TX17 b).2.1 := by decide +kernel
theorem tyX17_ok : ∀ k, k < 6 → parseFieldDescriptor (TX17 k).2.2.1 = some (tyX17 k) := by decide +kernel
abbrev cX17_finds : ByteArray := prog_11_method_2_code
def yX17_finds : MethodName := ⟨RX17, "finds", "()Z"⟩
theorem dX17_finds_0 : decode cX17_finds 0 = .ok (.iconst 0, 1) := by decide +kernel
theorem dX17_finds_1 : decode cX17_finds 1 = .ok (.ireturn, 1) := by decide +kernel
abbrev cX17_init : ByteArray := prog_11_method_1_code
def yX17_init : MethodName := ⟨RX17, "<init>", "(LVersionSolver;I)V"⟩
def dkwX17_init_2 : List UInt8 := [79, 132, 3, 1, 167, 255, 223, 177]
abbrev dktX17_init_2 : List UInt8 := dkwX17_init_2 ++ []
def dkwX17_init_1 : List UInt8 := [180, 0, 23, 182, 0, 29, 162, 0, 25, 42, 180, 0, 34, 29, 28, 178, 0, 38, 29, 46, 108, 16, 10, 112]
abbrev dktX17_init_1 : List UInt8 := dkwX17_init_1 ++ dktX17_init_2
def dkwX17_init_0 : List UInt8 := [42, 43, 181, 0, 3, 42, 43, 180, 0, 9, 43, 182, 0, 13, 183, 0, 17, 3, 62, 29, 43, 180, 0, 9]
abbrev dktX17_init_0 : List UInt8 := dkwX17_init_0 ++ dktX17_init_1
theorem dksX17_init_0 : cX17_init.data.toList.drop 0 = dktX17_init_0 := by decide +kernel
theorem dksX17_init_1 : cX17_init.data.toList.drop 24 = dktX17_init_1 := dk_seg dksX17_init_0 24 rfl rfl
theorem dksX17_init_2 : cX17_init.data.toList.drop 48 = dktX17_init_2 := dk_seg dksX17_init_1 24 rfl rfl
theorem dX17_init_0 : decode cX17_init 0 = .ok (.aload_n 0, 1) := dk_42 (dk_at dksX17_init_0 0 rfl rfl)
theorem dX17_init_1 : decode cX17_init 1 = .ok (.aload_n 1, 1) := dk_43 (dk_at dksX17_init_0 1 rfl rfl)
theorem dX17_init_2 : decode cX17_init 2 = .ok (.putfield 3, 3) := dk_181 0 3 (dk_at dksX17_init_0 2 rfl rfl)
theorem dX17_init_5 : decode cX17_init 5 = .ok (.aload_n 0, 1) := dk_42 (dk_at dksX17_init_0 5 rfl rfl)
theorem dX17_init_6 : decode cX17_init 6 = .ok (.aload_n 1, 1) := dk_43 (dk_at dksX17_init_0 6 rfl rfl)
theorem dX17_init_7 : decode cX17_init 7 = .ok (.getfield 9, 3) := dk_180 0 9 (dk_at dksX17_init_0 7 rfl rfl)
theorem dX17_init_10 : decode cX17_init 10 = .ok (.aload_n 1, 1) := dk_43 (dk_at dksX17_init_0 10 rfl rfl)
theorem dX17_init_11 : decode cX17_init 11 = .ok (.invokevirtual 13, 3) := dk_182 0 13 (dk_at dksX17_init_0 11 rfl rfl)
theorem dX17_init_14 : decode cX17_init 14 = .ok (.invokespecial 17, 3) := dk_183 0 17 (dk_at dksX17_init_0 14 rfl rfl)
theorem dX17_init_17 : decode cX17_init 17 = .ok (.iconst 0, 1) := dk_3 (dk_at dksX17_init_0 17 rfl rfl)
theorem dX17_init_18 : decode cX17_init 18 = .ok (.istore_n 3, 1) := dk_62 (dk_at dksX17_init_0 18 rfl rfl)
theorem dX17_init_19 : decode cX17_init 19 = .ok (.iload_n 3, 1) := dk_29 (dk_at dksX17_init_0 19 rfl rfl)
theorem dX17_init_20 : decode cX17_init 20 = .ok (.aload_n 1, 1) := dk_43 (dk_at dksX17_init_0 20 rfl rfl)
theorem dX17_init_21 : decode cX17_init 21 = .ok (.getfield 9, 3) := dk_180 0 9 (dk_at dksX17_init_0 21 rfl rfl)
theorem dX17_init_24 : decode cX17_init 24 = .ok (.getfield 23, 3) := dk_180 0 23 (dk_at dksX17_init_1 0 rfl rfl)
theorem dX17_init_27 : decode cX17_init 27 = .ok (.invokevirtual 29, 3) := dk_182 0 29 (dk_at dksX17_init_1 3 rfl rfl)
theorem dX17_init_30 : decode cX17_init 30 = .ok (.if_icmp .ge 25, 3) := dk_162 0 25 (dk_at dksX17_init_1 6 rfl rfl)
theorem dX17_init_33 : decode cX17_init 33 = .ok (.aload_n 0, 1) := dk_42 (dk_at dksX17_init_1 9 rfl rfl)
theorem dX17_init_34 : decode cX17_init 34 = .ok (.getfield 34, 3) := dk_180 0 34 (dk_at dksX17_init_1 10 rfl rfl)
theorem dX17_init_37 : decode cX17_init 37 = .ok (.iload_n 3, 1) := dk_29 (dk_at dksX17_init_1 13 rfl rfl)
theorem dX17_init_38 : decode cX17_init 38 = .ok (.iload_n 2, 1) := dk_28 (dk_at dksX17_init_1 14 rfl rfl)
theorem dX17_init_39 : decode cX17_init 39 = .ok (.getstatic 38, 3) := dk_178 0 38 (dk_at dksX17_init_1 15 rfl rfl)
theorem dX17_init_42 : decode cX17_init 42 = .ok (.iload_n 3, 1) := dk_29 (dk_at dksX17_init_1 18 rfl rfl)
theorem dX17_init_43 : decode cX17_init 43 = .ok (.iaload, 1) := dk_46 (dk_at dksX17_init_1 19 rfl rfl)
theorem dX17_init_44 : decode cX17_init 44 = .ok (.idiv, 1) := dk_108 (dk_at dksX17_init_1 20 rfl rfl)
theorem dX17_init_45 : decode cX17_init 45 = .ok (.bipush 10, 2) := dk_16 10 (dk_at dksX17_init_1 21 rfl rfl)
theorem dX17_init_47 : decode cX17_init 47 = .ok (.irem, 1) := dk_112 (dk_at dksX17_init_1 23 rfl rfl)
theorem dX17_init_48 : decode cX17_init 48 = .ok (.iastore, 1) := dk_79 (dk_at dksX17_init_2 0 rfl rfl)
theorem dX17_init_49 : decode cX17_init 49 = .ok (.iinc 3 1, 3) := dk_132 3 1 (dk_at dksX17_init_2 1 rfl rfl)
theorem dX17_init_52 : decode cX17_init 52 = .ok (.goto (-33), 3) := dk_167 255 223 (dk_at dksX17_init_2 4 rfl rfl)
theorem dX17_init_55 : decode cX17_init 55 = .ok (.return_, 1) := dk_177 (dk_at dksX17_init_2 7 rfl rfl)
abbrev cX17_hinders : ByteArray := prog_11_method_3_code
def yX17_hinders : MethodName := ⟨RX17, "hinders", "()I"⟩
def dkwX17_hinders_8 : List UInt8 := [16, 251, 172]
abbrev dktX17_hinders_8 : List UInt8 := dkwX17_hinders_8 ++ []
def dkwX17_hinders_7 : List UInt8 := [159, 0, 17, 28, 29, 184, 0, 73, 154, 0, 9, 17, 0, 200, 29, 96, 172, 132, 3, 1, 167, 255, 212]
abbrev dktX17_hinders_7 : List UInt8 := dkwX17_hinders_7 ++ dktX17_hinders_8
def dkwX17_hinders_6 : List UInt8 := [29, 42, 180, 0, 3, 180, 0, 9, 180, 0, 23, 182, 0, 29, 162, 0, 33, 42, 180, 0, 34, 29, 46, 8]
abbrev dktX17_hinders_6 : List UInt8 := dkwX17_hinders_6 ++ dktX17_hinders_7
def dkwX17_hinders_5 : List UInt8 := [180, 0, 67, 159, 0, 8, 16, 100, 28, 96, 172, 132, 2, 1, 167, 255, 183, 42, 182, 0, 70, 61, 3, 62]
abbrev dktX17_hinders_5 : List UInt8 := dkwX17_hinders_5 ++ dktX17_hinders_6
def dkwX17_hinders_4 : List UInt8 := [192, 0, 61, 180, 0, 63, 46, 42, 180, 0, 3, 180, 0, 9, 180, 0, 58, 28, 182, 0, 48, 192, 0, 61]
abbrev dktX17_hinders_4 : List UInt8 := dkwX17_hinders_4 ++ dktX17_hinders_5
def dkwX17_hinders_3 : List UInt8 := [182, 0, 29, 162, 0, 62, 42, 180, 0, 34, 42, 180, 0, 3, 180, 0, 9, 180, 0, 58, 28, 182, 0, 48]
abbrev dktX17_hinders_3 : List UInt8 := dkwX17_hinders_3 ++ dktX17_hinders_4
def dkwX17_hinders_2 : List UInt8 := [154, 0, 5, 28, 172, 132, 2, 1, 167, 255, 215, 3, 61, 28, 42, 180, 0, 3, 180, 0, 9, 180, 0, 58]
abbrev dktX17_hinders_2 : List UInt8 := dkwX17_hinders_2 ++ dktX17_hinders_3
def dkwX17_hinders_1 : List UInt8 := [180, 0, 9, 180, 0, 45, 28, 182, 0, 48, 192, 0, 52, 43, 28, 46, 42, 180, 0, 34, 182, 0, 54]
abbrev dktX17_hinders_1 : List UInt8 := dkwX17_hinders_1 ++ dktX17_hinders_2
def dkwX17_hinders_0 : List UInt8 := [42, 180, 0, 3, 180, 0, 9, 182, 0, 41, 76, 3, 61, 28, 43, 190, 162, 0, 41, 42, 180, 0, 3]
abbrev dktX17_hinders_0 : List UInt8 := dkwX17_hinders_0 ++ dktX17_hinders_1
theorem dksX17_hinders_0 : cX17_hinders.data.toList.drop 0 = dktX17_hinders_0 := by decide +kernel
theorem dksX17_hinders_1 : cX17_hinders.data.toList.drop 23 = dktX17_hinders_1 := dk_seg dksX17_hinders_0 23 rfl rfl
theorem dksX17_hinders_2 : cX17_hinders.data.toList.drop 46 = dktX17_hinders_2 := dk_seg dksX17_hinders_1 23 rfl rfl
theorem dksX17_hinders_3 : cX17_hinders.data.toList.drop 70 = dktX17_hinders_3 := dk_seg dksX17_hinders_2 24 rfl rfl
theorem dksX17_hinders_4 : cX17_hinders.data.toList.drop 94 = dktX17_hinders_4 := dk_seg dksX17_hinders_3 24 rfl rfl
theorem dksX17_hinders_5 : cX17_hinders.data.toList.drop 118 = dktX17_hinders_5 := dk_seg dksX17_hinders_4 24 rfl rfl
theorem dksX17_hinders_6 : cX17_hinders.data.toList.drop 142 = dktX17_hinders_6 := dk_seg dksX17_hinders_5 24 rfl rfl
theorem dksX17_hinders_7 : cX17_hinders.data.toList.drop 166 = dktX17_hinders_7 := dk_seg dksX17_hinders_6 24 rfl rfl
theorem dksX17_hinders_8 : cX17_hinders.data.toList.drop 189 = dktX17_hinders_8 := dk_seg dksX17_hinders_7 23 rfl rfl
theorem dX17_hinders_0 : decode cX17_hinders 0 = .ok (.aload_n 0, 1) := dk_42 (dk_at dksX17_hinders_0 0 rfl rfl)
theorem dX17_hinders_1 : decode cX17_hinders 1 = .ok (.getfield 3, 3) := dk_180 0 3 (dk_at dksX17_hinders_0 1 rfl rfl)
theorem dX17_hinders_4 : decode cX17_hinders 4 = .ok (.getfield 9, 3) := dk_180 0 9 (dk_at dksX17_hinders_0 4 rfl rfl)
theorem dX17_hinders_7 : decode cX17_hinders 7 = .ok (.invokevirtual 41, 3) := dk_182 0 41 (dk_at dksX17_hinders_0 7 rfl rfl)
theorem dX17_hinders_10 : decode cX17_hinders 10 = .ok (.astore_n 1, 1) := dk_76 (dk_at dksX17_hinders_0 10 rfl rfl)
theorem dX17_hinders_11 : decode cX17_hinders 11 = .ok (.iconst 0, 1) := dk_3 (dk_at dksX17_hinders_0 11 rfl rfl)
theorem dX17_hinders_12 : decode cX17_hinders 12 = .ok (.istore_n 2, 1) := dk_61 (dk_at dksX17_hinders_0 12 rfl rfl)
theorem dX17_hinders_13 : decode cX17_hinders 13 = .ok (.iload_n 2, 1) := dk_28 (dk_at dksX17_hinders_0 13 rfl rfl)
theorem dX17_hinders_14 : decode cX17_hinders 14 = .ok (.aload_n 1, 1) := dk_43 (dk_at dksX17_hinders_0 14 rfl rfl)
theorem dX17_hinders_15 : decode cX17_hinders 15 = .ok (.arraylength, 1) := dk_190 (dk_at dksX17_hinders_0 15 rfl rfl)
theorem dX17_hinders_16 : decode cX17_hinders 16 = .ok (.if_icmp .ge 41, 3) := dk_162 0 41 (dk_at dksX17_hinders_0 16 rfl rfl)
theorem dX17_hinders_19 : decode cX17_hinders 19 = .ok (.aload_n 0, 1) := dk_42 (dk_at dksX17_hinders_0 19 rfl rfl)
theorem dX17_hinders_20 : decode cX17_hinders 20 = .ok (.getfield 3, 3) := dk_180 0 3 (dk_at dksX17_hinders_0 20 rfl rfl)
theorem dX17_hinders_23 : decode cX17_hinders 23 = .ok (.getfield 9, 3) := dk_180 0 9 (dk_at dksX17_hinders_1 0 rfl rfl)
theorem dX17_hinders_26 : decode cX17_hinders 26 = .ok (.getfield 45, 3) := dk_180 0 45 (dk_at dksX17_hinders_1 3 rfl rfl)
theorem dX17_hinders_29 : decode cX17_hinders 29 = .ok (.iload_n 2, 1) := dk_28 (dk_at dksX17_hinders_1 6 rfl rfl)
theorem dX17_hinders_30 : decode cX17_hinders 30 = .ok (.invokevirtual 48, 3) := dk_182 0 48 (dk_at dksX17_hinders_1 7 rfl rfl)
theorem dX17_hinders_33 : decode cX17_hinders 33 = .ok (.checkcast 52, 3) := dk_192 0 52 (dk_at dksX17_hinders_1 10 rfl rfl)
theorem dX17_hinders_36 : decode cX17_hinders 36 = .ok (.aload_n 1, 1) := dk_43 (dk_at dksX17_hinders_1 13 rfl rfl)
theorem dX17_hinders_37 : decode cX17_hinders 37 = .ok (.iload_n 2, 1) := dk_28 (dk_at dksX17_hinders_1 14 rfl rfl)
theorem dX17_hinders_38 : decode cX17_hinders 38 = .ok (.iaload, 1) := dk_46 (dk_at dksX17_hinders_1 15 rfl rfl)
theorem dX17_hinders_39 : decode cX17_hinders 39 = .ok (.aload_n 0, 1) := dk_42 (dk_at dksX17_hinders_1 16 rfl rfl)
theorem dX17_hinders_40 : decode cX17_hinders 40 = .ok (.getfield 34, 3) := dk_180 0 34 (dk_at dksX17_hinders_1 17 rfl rfl)
theorem dX17_hinders_43 : decode cX17_hinders 43 = .ok (.invokevirtual 54, 3) := dk_182 0 54 (dk_at dksX17_hinders_1 20 rfl rfl)
theorem dX17_hinders_46 : decode cX17_hinders 46 = .ok (.ifCond .ne 5, 3) := dk_154 0 5 (dk_at dksX17_hinders_2 0 rfl rfl)
theorem dX17_hinders_49 : decode cX17_hinders 49 = .ok (.iload_n 2, 1) := dk_28 (dk_at dksX17_hinders_2 3 rfl rfl)
theorem dX17_hinders_50 : decode cX17_hinders 50 = .ok (.ireturn, 1) := dk_172 (dk_at dksX17_hinders_2 4 rfl rfl)
theorem dX17_hinders_51 : decode cX17_hinders 51 = .ok (.iinc 2 1, 3) := dk_132 2 1 (dk_at dksX17_hinders_2 5 rfl rfl)
theorem dX17_hinders_54 : decode cX17_hinders 54 = .ok (.goto (-41), 3) := dk_167 255 215 (dk_at dksX17_hinders_2 8 rfl rfl)
theorem dX17_hinders_57 : decode cX17_hinders 57 = .ok (.iconst 0, 1) := dk_3 (dk_at dksX17_hinders_2 11 rfl rfl)
theorem dX17_hinders_58 : decode cX17_hinders 58 = .ok (.istore_n 2, 1) := dk_61 (dk_at dksX17_hinders_2 12 rfl rfl)
theorem dX17_hinders_59 : decode cX17_hinders 59 = .ok (.iload_n 2, 1) := dk_28 (dk_at dksX17_hinders_2 13 rfl rfl)
theorem dX17_hinders_60 : decode cX17_hinders 60 = .ok (.aload_n 0, 1) := dk_42 (dk_at dksX17_hinders_2 14 rfl rfl)
theorem dX17_hinders_61 : decode cX17_hinders 61 = .ok (.getfield 3, 3) := dk_180 0 3 (dk_at dksX17_hinders_2 15 rfl rfl)
theorem dX17_hinders_64 : decode cX17_hinders 64 = .ok (.getfield 9, 3) := dk_180 0 9 (dk_at dksX17_hinders_2 18 rfl rfl)
theorem dX17_hinders_67 : decode cX17_hinders 67 = .ok (.getfield 58, 3) := dk_180 0 58 (dk_at dksX17_hinders_2 21 rfl rfl)
theorem dX17_hinders_70 : decode cX17_hinders 70 = .ok (.invokevirtual 29, 3) := dk_182 0 29 (dk_at dksX17_hinders_3 0 rfl rfl)
theorem dX17_hinders_73 : decode cX17_hinders 73 = .ok (.if_icmp .ge 62, 3) := dk_162 0 62 (dk_at dksX17_hinders_3 3 rfl rfl)
theorem dX17_hinders_76 : decode cX17_hinders 76 = .ok (.aload_n 0, 1) := dk_42 (dk_at dksX17_hinders_3 6 rfl rfl)
theorem dX17_hinders_77 : decode cX17_hinders 77 = .ok (.getfield 34, 3) := dk_180 0 34 (dk_at dksX17_hinders_3 7 rfl rfl)
theorem dX17_hinders_80 : decode cX17_hinders 80 = .ok (.aload_n 0, 1) := dk_42 (dk_at dksX17_hinders_3 10 rfl rfl)
theorem dX17_hinders_81 : decode cX17_hinders 81 = .ok (.getfield 3, 3) := dk_180 0 3 (dk_at dksX17_hinders_3 11 rfl rfl)
theorem dX17_hinders_84 : decode cX17_hinders 84 = .ok (.getfield 9, 3) := dk_180 0 9 (dk_at dksX17_hinders_3 14 rfl rfl)
theorem dX17_hinders_87 : decode cX17_hinders 87 = .ok (.getfield 58, 3) := dk_180 0 58 (dk_at dksX17_hinders_3 17 rfl rfl)
theorem dX17_hinders_90 : decode cX17_hinders 90 = .ok (.iload_n 2, 1) := dk_28 (dk_at dksX17_hinders_3 20 rfl rfl)
theorem dX17_hinders_91 : decode cX17_hinders 91 = .ok (.invokevirtual 48, 3) := dk_182 0 48 (dk_at dksX17_hinders_3 21 rfl rfl)
theorem dX17_hinders_94 : decode cX17_hinders 94 = .ok (.checkcast 61, 3) := dk_192 0 61 (dk_at dksX17_hinders_4 0 rfl rfl)
theorem dX17_hinders_97 : decode cX17_hinders 97 = .ok (.getfield 63, 3) := dk_180 0 63 (dk_at dksX17_hinders_4 3 rfl rfl)
theorem dX17_hinders_100 : decode cX17_hinders 100 = .ok (.iaload, 1) := dk_46 (dk_at dksX17_hinders_4 6 rfl rfl)
theorem dX17_hinders_101 : decode cX17_hinders 101 = .ok (.aload_n 0, 1) := dk_42 (dk_at dksX17_hinders_4 7 rfl rfl)
theorem dX17_hinders_102 : decode cX17_hinders 102 = .ok (.getfield 3, 3) := dk_180 0 3 (dk_at dksX17_hinders_4 8 rfl rfl)
theorem dX17_hinders_105 : decode cX17_hinders 105 = .ok (.getfield 9, 3) := dk_180 0 9 (dk_at dksX17_hinders_4 11 rfl rfl)
theorem dX17_hinders_108 : decode cX17_hinders 108 = .ok (.getfield 58, 3) := dk_180 0 58 (dk_at dksX17_hinders_4 14 rfl rfl)
theorem dX17_hinders_111 : decode cX17_hinders 111 = .ok (.iload_n 2, 1) := dk_28 (dk_at dksX17_hinders_4 17 rfl rfl)
theorem dX17_hinders_112 : decode cX17_hinders 112 = .ok (.invokevirtual 48, 3) := dk_182 0 48 (dk_at dksX17_hinders_4 18 rfl rfl)
theorem dX17_hinders_115 : decode cX17_hinders 115 = .ok (.checkcast 61, 3) := dk_192 0 61 (dk_at dksX17_hinders_4 21 rfl rfl)
theorem dX17_hinders_118 : decode cX17_hinders 118 = .ok (.getfield 67, 3) := dk_180 0 67 (dk_at dksX17_hinders_5 0 rfl rfl)
theorem dX17_hinders_121 : decode cX17_hinders 121 = .ok (.if_icmp .eq 8, 3) := dk_159 0 8 (dk_at dksX17_hinders_5 3 rfl rfl)
theorem dX17_hinders_124 : decode cX17_hinders 124 = .ok (.bipush 100, 2) := dk_16 100 (dk_at dksX17_hinders_5 6 rfl rfl)
theorem dX17_hinders_126 : decode cX17_hinders 126 = .ok (.iload_n 2, 1) := dk_28 (dk_at dksX17_hinders_5 8 rfl rfl)
theorem dX17_hinders_127 : decode cX17_hinders 127 = .ok (.iadd, 1) := dk_96 (dk_at dksX17_hinders_5 9 rfl rfl)
theorem dX17_hinders_128 : decode cX17_hinders 128 = .ok (.ireturn, 1) := dk_172 (dk_at dksX17_hinders_5 10 rfl rfl)
theorem dX17_hinders_129 : decode cX17_hinders 129 = .ok (.iinc 2 1, 3) := dk_132 2 1 (dk_at dksX17_hinders_5 11 rfl rfl)
theorem dX17_hinders_132 : decode cX17_hinders 132 = .ok (.goto (-73), 3) := dk_167 255 183 (dk_at dksX17_hinders_5 14 rfl rfl)
theorem dX17_hinders_135 : decode cX17_hinders 135 = .ok (.aload_n 0, 1) := dk_42 (dk_at dksX17_hinders_5 17 rfl rfl)
theorem dX17_hinders_136 : decode cX17_hinders 136 = .ok (.invokevirtual 70, 3) := dk_182 0 70 (dk_at dksX17_hinders_5 18 rfl rfl)
theorem dX17_hinders_139 : decode cX17_hinders 139 = .ok (.istore_n 2, 1) := dk_61 (dk_at dksX17_hinders_5 21 rfl rfl)
theorem dX17_hinders_140 : decode cX17_hinders 140 = .ok (.iconst 0, 1) := dk_3 (dk_at dksX17_hinders_5 22 rfl rfl)
theorem dX17_hinders_141 : decode cX17_hinders 141 = .ok (.istore_n 3, 1) := dk_62 (dk_at dksX17_hinders_5 23 rfl rfl)
theorem dX17_hinders_142 : decode cX17_hinders 142 = .ok (.iload_n 3, 1) := dk_29 (dk_at dksX17_hinders_6 0 rfl rfl)
theorem dX17_hinders_143 : decode cX17_hinders 143 = .ok (.aload_n 0, 1) := dk_42 (dk_at dksX17_hinders_6 1 rfl rfl)
theorem dX17_hinders_144 : decode cX17_hinders 144 = .ok (.getfield 3, 3) := dk_180 0 3 (dk_at dksX17_hinders_6 2 rfl rfl)
theorem dX17_hinders_147 : decode cX17_hinders 147 = .ok (.getfield 9, 3) := dk_180 0 9 (dk_at dksX17_hinders_6 5 rfl rfl)
theorem dX17_hinders_150 : decode cX17_hinders 150 = .ok (.getfield 23, 3) := dk_180 0 23 (dk_at dksX17_hinders_6 8 rfl rfl)
theorem dX17_hinders_153 : decode cX17_hinders 153 = .ok (.invokevirtual 29, 3) := dk_182 0 29 (dk_at dksX17_hinders_6 11 rfl rfl)
theorem dX17_hinders_156 : decode cX17_hinders 156 = .ok (.if_icmp .ge 33, 3) := dk_162 0 33 (dk_at dksX17_hinders_6 14 rfl rfl)
theorem dX17_hinders_159 : decode cX17_hinders 159 = .ok (.aload_n 0, 1) := dk_42 (dk_at dksX17_hinders_6 17 rfl rfl)
theorem dX17_hinders_160 : decode cX17_hinders 160 = .ok (.getfield 34, 3) := dk_180 0 34 (dk_at dksX17_hinders_6 18 rfl rfl)
theorem dX17_hinders_163 : decode cX17_hinders 163 = .ok (.iload_n 3, 1) := dk_29 (dk_at dksX17_hinders_6 21 rfl rfl)
theorem dX17_hinders_164 : decode cX17_hinders 164 = .ok (.iaload, 1) := dk_46 (dk_at dksX17_hinders_6 22 rfl rfl)
theorem dX17_hinders_165 : decode cX17_hinders 165 = .ok (.iconst 5, 1) := dk_8 (dk_at dksX17_hinders_6 23 rfl rfl)
theorem dX17_hinders_166 : decode cX17_hinders 166 = .ok (.if_icmp .eq 17, 3) := dk_159 0 17 (dk_at dksX17_hinders_7 0 rfl rfl)
theorem dX17_hinders_169 : decode cX17_hinders 169 = .ok (.iload_n 2, 1) := dk_28 (dk_at dksX17_hinders_7 3 rfl rfl)
theorem dX17_hinders_170 : decode cX17_hinders 170 = .ok (.iload_n 3, 1) := dk_29 (dk_at dksX17_hinders_7 4 rfl rfl)
theorem dX17_hinders_171 : decode cX17_hinders 171 = .ok (.invokestatic 73, 3) := dk_184 0 73 (dk_at dksX17_hinders_7 5 rfl rfl)
theorem dX17_hinders_174 : decode cX17_hinders 174 = .ok (.ifCond .ne 9, 3) := dk_154 0 9 (dk_at dksX17_hinders_7 8 rfl rfl)
theorem dX17_hinders_177 : decode cX17_hinders 177 = .ok (.sipush 200, 3) := dk_17 0 200 (dk_at dksX17_hinders_7 11 rfl rfl)
theorem dX17_hinders_180 : decode cX17_hinders 180 = .ok (.iload_n 3, 1) := dk_29 (dk_at dksX17_hinders_7 14 rfl rfl)
theorem dX17_hinders_181 : decode cX17_hinders 181 = .ok (.iadd, 1) := dk_96 (dk_at dksX17_hinders_7 15 rfl rfl)
theorem dX17_hinders_182 : decode cX17_hinders 182 = .ok (.ireturn, 1) := dk_172 (dk_at dksX17_hinders_7 16 rfl rfl)
theorem dX17_hinders_183 : decode cX17_hinders 183 = .ok (.iinc 3 1, 3) := dk_132 3 1 (dk_at dksX17_hinders_7 17 rfl rfl)
theorem dX17_hinders_186 : decode cX17_hinders 186 = .ok (.goto (-44), 3) := dk_167 255 212 (dk_at dksX17_hinders_7 20 rfl rfl)
theorem dX17_hinders_189 : decode cX17_hinders 189 = .ok (.bipush (-5), 2) := dk_16 251 (dk_at dksX17_hinders_8 0 rfl rfl)
theorem dX17_hinders_191 : decode cX17_hinders 191 = .ok (.ireturn, 1) := dk_172 (dk_at dksX17_hinders_8 2 rfl rfl)
theorem q125 : (Jvm.Cond.initialized "VersionSolver$Look") ∈ lw_all := lw_g (lw_at lw_m1 36 rfl) rfl
theorem q180 : (Jvm.Cond.fieldLinkNest "VersionSolver$Look" (23 : Nat) "VersionSolver$Board" "packs" "Ljava/util/ArrayList;" "VersionSolver") ∈ lw_tbl := lw_at lw_m1 91 rfl
theorem q185 : (Jvm.Cond.fieldLinkNest "VersionSolver$Look" (45 : Nat) "VersionSolver$Board" "rules" "Ljava/util/ArrayList;" "VersionSolver") ∈ lw_tbl := lw_at lw_m1 96 rfl
theorem q190 : (Jvm.Cond.fieldLinkNest "VersionSolver$Look" (58 : Nat) "VersionSolver$Board" "assumptions" "Ljava/util/ArrayList;" "VersionSolver") ∈ lw_tbl := lw_at lw_m1 101 rfl
theorem q256 : (Jvm.Cond.fieldLinkNest "VersionSolver$Look" (9 : Nat) "VersionSolver" "board" "LVersionSolver$Board;" "VersionSolver") ∈ lw_tbl := lw_at lw_m1 167 rfl
theorem q415 : (Jvm.Cond.selects "VersionSolver$Look" ({ cls := "java/lang/Object", name := "getClass", desc := "()Ljava/lang/Class;" } : Jvm.MethodName) ({ cls := "java/lang/Object", name := "getClass", desc := "()Ljava/lang/Class;" } : Jvm.MethodName)) ∈ lw_all := lw_g (lw_at lw_m2 86 rfl) rfl
theorem q1113 : (Jvm.Cond.fieldLinkNest "VersionSolver$Look" (63 : Nat) "VersionSolver$Assumption" "pack" "I" "VersionSolver") ∈ lw_tbl := lw_at lw_m5 64 rfl
theorem q1119 : (Jvm.Cond.fieldLinkNest "VersionSolver$Look" (67 : Nat) "VersionSolver$Assumption" "state" "I" "VersionSolver") ∈ lw_tbl := lw_at lw_m5 70 rfl
theorem q1203 : (Jvm.Cond.fieldLink "VersionSolver$Look" (34 : Nat) "VersionSolver$Look" "states" "[I") ∈ lw_all := lw_g (lw_at lw_m5 154 rfl) rfl
theorem q1204 : (Jvm.Cond.sameField "VersionSolver$Look" "VersionSolver$Search" "states" "[I") ∈ lw_all := lw_g (lw_at lw_m5 155 rfl) rfl
theorem q1242 : (Jvm.Cond.selects "VersionSolver$Look" ({ cls := "VersionSolver$Search", name := "reached", desc := "()I" } : Jvm.MethodName) ({ cls := "VersionSolver$Search", name := "reached", desc := "()I" } : Jvm.MethodName)) ∈ lw_all := lw_g (lw_at lw_m5 193 rfl) rfl
theorem q1290 : (Jvm.Cond.selects "VersionSolver$Look" ({ cls := "VersionSolver$Search", name := "finds", desc := "()Z" } : Jvm.MethodName) ({ cls := "VersionSolver$Look", name := "finds", desc := "()Z" } : Jvm.MethodName)) ∈ lw_all := lw_g (lw_at lw_m6 1 rfl) rfl
theorem q1291 : (Jvm.Cond.instanceMethod ({ cls := "VersionSolver$Look", name := "finds", desc := "()Z" } : Jvm.MethodName)) ∈ lw_all := lw_g (lw_at lw_m6 2 rfl) rfl
theorem q1292 : (Jvm.Cond.code ({ cls := "VersionSolver$Look", name := "finds", desc := "()Z" } : Jvm.MethodName) prog_11_method_2_code (1 : Nat) (Option.some Jvm.ClassFile.FieldType.boolean)) ∈ lw_all := lw_g (lw_at lw_m6 3 rfl) rfl
theorem q1366 : (Jvm.Cond.instantiable "VersionSolver$Look" (6 : Nat)) ∈ lw_all := lw_g (lw_at lw_m6 77 rfl) rfl
theorem q1368 : (Jvm.Cond.instanceMethod ({ cls := "VersionSolver$Look", name := "<init>", desc := "(LVersionSolver;I)V" } : Jvm.MethodName)) ∈ lw_all := lw_g (lw_at lw_m6 79 rfl) rfl
theorem q1369 : (Jvm.Cond.code ({ cls := "VersionSolver$Look", name := "<init>", desc := "(LVersionSolver;I)V" } : Jvm.MethodName) prog_11_method_1_code (4 : Nat) (Option.none : Option Jvm.ClassFile.FieldType)) ∈ lw_all := lw_g (lw_at lw_m6 80 rfl) rfl
theorem q1370 : (Jvm.Cond.methodLinkNest "VersionSolver$Look" (13 : Nat) ({ cls := "VersionSolver", name := "allRules", desc := "()I" } : Jvm.MethodName) "VersionSolver") ∈ lw_tbl := lw_at lw_m6 81 rfl
theorem q1371 : (Jvm.Cond.methodLink "VersionSolver$Look" (17 : Nat) ({ cls := "VersionSolver$Search", name := "<init>", desc := "(LVersionSolver$Board;I)V" } : Jvm.MethodName)) ∈ lw_all := lw_g (lw_at lw_m6 82 rfl) rfl
theorem q1372 : (Jvm.Cond.methodLink "VersionSolver$Look" (29 : Nat) ({ cls := "java/util/ArrayList", name := "size", desc := "()I" } : Jvm.MethodName)) ∈ lw_all := lw_g (lw_at lw_m6 83 rfl) rfl
theorem q1373 : (Jvm.Cond.fieldLinkNest "VersionSolver$Look" (38 : Nat) "VersionSolver" "TENS" "[I" "VersionSolver") ∈ lw_tbl := lw_at lw_m6 84 rfl
theorem q1374 : (Jvm.Cond.fieldLink "VersionSolver$Look" (3 : Nat) "VersionSolver$Look" "this$0" "LVersionSolver;") ∈ lw_all := lw_g (lw_at lw_m6 85 rfl) rfl
theorem q1375 : (Jvm.Cond.laysFinal "VersionSolver$Look" "VersionSolver$Look" "this$0" "LVersionSolver;") ∈ lw_all := lw_g (lw_at lw_m6 86 rfl) rfl
theorem q1376 : (Jvm.Cond.soleField "VersionSolver$Look" "this$0") ∈ lw_all := lw_g (lw_at lw_m6 87 rfl) rfl
theorem q1377 : (Jvm.Cond.laysFinal "VersionSolver$Look" "VersionSolver$Search" "board" "LVersionSolver$Board;") ∈ lw_all := lw_g (lw_at lw_m6 88 rfl) rfl
theorem q1378 : (Jvm.Cond.laysFinal "VersionSolver$Look" "VersionSolver$Search" "masks" "[I") ∈ lw_all := lw_g (lw_at lw_m6 89 rfl) rfl
theorem q1379 : (Jvm.Cond.laysFinal "VersionSolver$Look" "VersionSolver$Search" "order" "[I") ∈ lw_all := lw_g (lw_at lw_m6 90 rfl) rfl
theorem q1380 : (Jvm.Cond.laysFinal "VersionSolver$Look" "VersionSolver$Search" "rules" "I") ∈ lw_all := lw_g (lw_at lw_m6 91 rfl) rfl
theorem q1381 : (Jvm.Cond.laysFinal "VersionSolver$Look" "VersionSolver$Search" "states" "[I") ∈ lw_all := lw_g (lw_at lw_m6 92 rfl) rfl
theorem q1382 : (Jvm.Cond.superclass "VersionSolver$Look" "VersionSolver$Search") ∈ lw_all := lw_g (lw_at lw_m6 93 rfl) rfl
theorem q1384 : (Jvm.Cond.instanceMethod ({ cls := "VersionSolver$Look", name := "hinders", desc := "()I" } : Jvm.MethodName)) ∈ lw_all := lw_g (lw_at lw_m6 95 rfl) rfl
theorem q1385 : (Jvm.Cond.selects "VersionSolver$Look" ({ cls := "VersionSolver$Look", name := "hinders", desc := "()I" } : Jvm.MethodName) ({ cls := "VersionSolver$Look", name := "hinders", desc := "()I" } : Jvm.MethodName)) ∈ lw_all := lw_g (lw_at lw_m6 96 rfl) rfl
theorem q1386 : (Jvm.Cond.code ({ cls := "VersionSolver$Look", name := "hinders", desc := "()I" } : Jvm.MethodName) prog_11_method_3_code (4 : Nat) (Option.some Jvm.ClassFile.FieldType.int)) ∈ lw_all := lw_g (lw_at lw_m6 97 rfl) rfl
theorem q1387 : (Jvm.Cond.methodLink "VersionSolver$Look" (41 : Nat) ({ cls := "VersionSolver$Board", name := "masks", desc := "()[I" } : Jvm.MethodName)) ∈ lw_all := lw_g (lw_at lw_m6 98 rfl) rfl
theorem q1388 : (Jvm.Cond.methodLink "VersionSolver$Look" (48 : Nat) ({ cls := "java/util/ArrayList", name := "get", desc := "(I)Ljava/lang/Object;" } : Jvm.MethodName)) ∈ lw_all := lw_g (lw_at lw_m6 99 rfl) rfl
theorem q1389 : (Jvm.Cond.classLink "VersionSolver$Look" (52 : Nat) "VersionSolver$Rule") ∈ lw_all := lw_g (lw_at lw_m6 100 rfl) rfl
theorem q1390 : (Jvm.Cond.methodLink "VersionSolver$Look" (54 : Nat) ({ cls := "VersionSolver$Rule", name := "isKept", desc := "(I[I)Z" } : Jvm.MethodName)) ∈ lw_all := lw_g (lw_at lw_m6 101 rfl) rfl
theorem q1391 : (Jvm.Cond.classLink "VersionSolver$Look" (61 : Nat) "VersionSolver$Assumption") ∈ lw_all := lw_g (lw_at lw_m6 102 rfl) rfl
theorem q1392 : (Jvm.Cond.methodLink "VersionSolver$Look" (70 : Nat) ({ cls := "VersionSolver$Look", name := "reached", desc := "()I" } : Jvm.MethodName)) ∈ lw_all := lw_g (lw_at lw_m6 103 rfl) rfl
theorem q1393 : (Jvm.Cond.sameMethod "VersionSolver$Look" "VersionSolver$Search" "reached" "()I") ∈ lw_all := lw_g (lw_at lw_m6 104 rfl) rfl
theorem q1395 : (Jvm.Cond.selects "VersionSolver$Look" ({ cls := "VersionSolver$Look", name := "reached", desc := "()I" } : Jvm.MethodName) ({ cls := "VersionSolver$Search", name := "reached", desc := "()I" } : Jvm.MethodName)) ∈ lw_all := lw_g (lw_at lw_m6 106 rfl) rfl
theorem q1396 : (Jvm.Cond.methodLinkNest "VersionSolver$Look" (73 : Nat) ({ cls := "VersionSolver", name := "has", desc := "(II)Z" } : Jvm.MethodName) "VersionSolver") ∈ lw_tbl := lw_at lw_m6 107 rfl
theorem q2480 : (Jvm.Cond.selects "VersionSolver$Look" ({ cls := "VersionSolver$Search", name := "goes", desc := "(I)Z" } : Jvm.MethodName) ({ cls := "VersionSolver$Search", name := "goes", desc := "(I)Z" } : Jvm.MethodName)) ∈ lw_all := lw_g (lw_at lw_m10 231 rfl) rfl
theorem q2520 : (Jvm.Cond.castable "VersionSolver$Look" "java/lang/Object") ∈ lw_tbl := lw_at lw_m11 31 rfl
theorem in_X17 : ∀ w ∈ wsX170, w ∈ lw_all := lw_in wsX170 [1377, 1378, 1379, 1380, 1381, 1375] (by decide +kernel) (by decide +kernel)
/-! VersionSolver$Gathering -/
set_option maxRecDepth 100000
def RX18 : String := "VersionSolver$Gathering"
def TX18 : u_T := fun k => match k with
  | 0 => ("VersionSolver$Search", "board", "LVersionSolver$Board;", true)
  | 1 => ("VersionSolver$Search", "masks", "[I", true)
  | 2 => ("VersionSolver$Search", "order", "[I", true)
  | 3 => ("VersionSolver$Search", "rules", "I", true)
  | 4 => ("VersionSolver$Search", "states", "[I", true)
  | 5 => ("VersionSolver$Gathering", "pack", "I", true)
  | _ => ("VersionSolver$Gathering", "found", "I", false)
def tyX18 : Nat → FieldType := fun k => match k with
  | 0 => .object "VersionSolver$Board"
  | 1 => .array .int
  | 2 => .array .int
  | 3 => .int
  | 4 => .array .int
  | 5 => .int
  | _ => .int
abbrev wsX180 : List Cond := u_ws RX18 TX18 7
theorem nmX18 : ∀ a, a < 7 → ∀ b, b < 7 → a ≠ b → (TX18 a).2.1 ≠ (TX18 b).2.1 := by decide +kernel
theorem tyX18_ok : ∀ k, k < 7 → parseFieldDescriptor (TX18 k).2.2.1 = some (tyX18 k) := by decide +kernel
abbrev cX18_finds : ByteArray := prog_8_method_2_code
def yX18_finds : MethodName := ⟨RX18, "finds", "()Z"⟩
def dkwX18_finds_0 : List UInt8 := [42, 89, 180, 0, 13, 4, 42, 180, 0, 16, 42, 180, 0, 7, 46, 120, 128, 181, 0, 13, 4, 172]
abbrev dktX18_finds_0 : List UInt8 := dkwX18_finds_0 ++ []
theorem dksX18_finds_0 : cX18_finds.data.toList.drop 0 = dktX18_finds_0 := by decide +kernel
theorem dX18_finds_0 : decode cX18_finds 0 = .ok (.aload_n 0, 1) := dk_42 (dk_at dksX18_finds_0 0 rfl rfl)
theorem dX18_finds_1 : decode cX18_finds 1 = .ok (.dup, 1) := dk_89 (dk_at dksX18_finds_0 1 rfl rfl)
theorem dX18_finds_2 : decode cX18_finds 2 = .ok (.getfield 13, 3) := dk_180 0 13 (dk_at dksX18_finds_0 2 rfl rfl)
theorem dX18_finds_5 : decode cX18_finds 5 = .ok (.iconst 1, 1) := dk_4 (dk_at dksX18_finds_0 5 rfl rfl)
theorem dX18_finds_6 : decode cX18_finds 6 = .ok (.aload_n 0, 1) := dk_42 (dk_at dksX18_finds_0 6 rfl rfl)
theorem dX18_finds_7 : decode cX18_finds 7 = .ok (.getfield 16, 3) := dk_180 0 16 (dk_at dksX18_finds_0 7 rfl rfl)
theorem dX18_finds_10 : decode cX18_finds 10 = .ok (.aload_n 0, 1) := dk_42 (dk_at dksX18_finds_0 10 rfl rfl)
theorem dX18_finds_11 : decode cX18_finds 11 = .ok (.getfield 7, 3) := dk_180 0 7 (dk_at dksX18_finds_0 11 rfl rfl)
theorem dX18_finds_14 : decode cX18_finds 14 = .ok (.iaload, 1) := dk_46 (dk_at dksX18_finds_0 14 rfl rfl)
theorem dX18_finds_15 : decode cX18_finds 15 = .ok (.ishl, 1) := dk_120 (dk_at dksX18_finds_0 15 rfl rfl)
theorem dX18_finds_16 : decode cX18_finds 16 = .ok (.ior, 1) := dk_128 (dk_at dksX18_finds_0 16 rfl rfl)
theorem dX18_finds_17 : decode cX18_finds 17 = .ok (.putfield 13, 3) := dk_181 0 13 (dk_at dksX18_finds_0 17 rfl rfl)
theorem dX18_finds_20 : decode cX18_finds 20 = .ok (.iconst 1, 1) := dk_4 (dk_at dksX18_finds_0 20 rfl rfl)
theorem dX18_finds_21 : decode cX18_finds 21 = .ok (.ireturn, 1) := dk_172 (dk_at dksX18_finds_0 21 rfl rfl)
abbrev cX18_init : ByteArray := prog_8_method_1_code
def yX18_init : MethodName := ⟨RX18, "<init>", "(LVersionSolver$Board;II)V"⟩
def dkwX18_init_0 : List UInt8 := [42, 43, 28, 183, 0, 1, 42, 29, 181, 0, 7, 177]
abbrev dktX18_init_0 : List UInt8 := dkwX18_init_0 ++ []
theorem dksX18_init_0 : cX18_init.data.toList.drop 0 = dktX18_init_0 := by decide +kernel
theorem dX18_init_0 : decode cX18_init 0 = .ok (.aload_n 0, 1) := dk_42 (dk_at dksX18_init_0 0 rfl rfl)
theorem dX18_init_1 : decode cX18_init 1 = .ok (.aload_n 1, 1) := dk_43 (dk_at dksX18_init_0 1 rfl rfl)
theorem dX18_init_2 : decode cX18_init 2 = .ok (.iload_n 2, 1) := dk_28 (dk_at dksX18_init_0 2 rfl rfl)
theorem dX18_init_3 : decode cX18_init 3 = .ok (.invokespecial 1, 3) := dk_183 0 1 (dk_at dksX18_init_0 3 rfl rfl)
theorem dX18_init_6 : decode cX18_init 6 = .ok (.aload_n 0, 1) := dk_42 (dk_at dksX18_init_0 6 rfl rfl)
theorem dX18_init_7 : decode cX18_init 7 = .ok (.iload_n 3, 1) := dk_29 (dk_at dksX18_init_0 7 rfl rfl)
theorem dX18_init_8 : decode cX18_init 8 = .ok (.putfield 7, 3) := dk_181 0 7 (dk_at dksX18_init_0 8 rfl rfl)
theorem dX18_init_11 : decode cX18_init 11 = .ok (.return_, 1) := dk_177 (dk_at dksX18_init_0 11 rfl rfl)
abbrev cX18_all : ByteArray := prog_8_method_3_code
def yX18_all : MethodName := ⟨RX18, "all", "()I"⟩
def dkwX18_all_0 : List UInt8 := [42, 3, 182, 0, 20, 60, 42, 180, 0, 13, 172]
abbrev dktX18_all_0 : List UInt8 := dkwX18_all_0 ++ []
theorem dksX18_all_0 : cX18_all.data.toList.drop 0 = dktX18_all_0 := by decide +kernel
theorem dX18_all_0 : decode cX18_all 0 = .ok (.aload_n 0, 1) := dk_42 (dk_at dksX18_all_0 0 rfl rfl)
theorem dX18_all_1 : decode cX18_all 1 = .ok (.iconst 0, 1) := dk_3 (dk_at dksX18_all_0 1 rfl rfl)
theorem dX18_all_2 : decode cX18_all 2 = .ok (.invokevirtual 20, 3) := dk_182 0 20 (dk_at dksX18_all_0 2 rfl rfl)
theorem dX18_all_5 : decode cX18_all 5 = .ok (.istore_n 1, 1) := dk_60 (dk_at dksX18_all_0 5 rfl rfl)
theorem dX18_all_6 : decode cX18_all 6 = .ok (.aload_n 0, 1) := dk_42 (dk_at dksX18_all_0 6 rfl rfl)
theorem dX18_all_7 : decode cX18_all 7 = .ok (.getfield 13, 3) := dk_180 0 13 (dk_at dksX18_all_0 7 rfl rfl)
theorem dX18_all_10 : decode cX18_all 10 = .ok (.ireturn, 1) := dk_172 (dk_at dksX18_all_0 10 rfl rfl)
theorem q126 : (Jvm.Cond.initialized "VersionSolver$Gathering") ∈ lw_all := lw_g (lw_at lw_m1 37 rfl) rfl
theorem q412 : (Jvm.Cond.selects "VersionSolver$Gathering" ({ cls := "java/lang/Object", name := "getClass", desc := "()Ljava/lang/Class;" } : Jvm.MethodName) ({ cls := "java/lang/Object", name := "getClass", desc := "()Ljava/lang/Class;" } : Jvm.MethodName)) ∈ lw_all := lw_g (lw_at lw_m2 83 rfl) rfl
theorem q1205 : (Jvm.Cond.fieldLink "VersionSolver$Gathering" (16 : Nat) "VersionSolver$Gathering" "states" "[I") ∈ lw_all := lw_g (lw_at lw_m5 156 rfl) rfl
theorem q1206 : (Jvm.Cond.sameField "VersionSolver$Gathering" "VersionSolver$Search" "states" "[I") ∈ lw_all := lw_g (lw_at lw_m5 157 rfl) rfl
theorem q1241 : (Jvm.Cond.selects "VersionSolver$Gathering" ({ cls := "VersionSolver$Search", name := "reached", desc := "()I" } : Jvm.MethodName) ({ cls := "VersionSolver$Search", name := "reached", desc := "()I" } : Jvm.MethodName)) ∈ lw_all := lw_g (lw_at lw_m5 192 rfl) rfl
theorem q1287 : (Jvm.Cond.selects "VersionSolver$Gathering" ({ cls := "VersionSolver$Search", name := "finds", desc := "()Z" } : Jvm.MethodName) ({ cls := "VersionSolver$Gathering", name := "finds", desc := "()Z" } : Jvm.MethodName)) ∈ lw_all := lw_g (lw_at lw_m5 238 rfl) rfl
theorem q1288 : (Jvm.Cond.instanceMethod ({ cls := "VersionSolver$Gathering", name := "finds", desc := "()Z" } : Jvm.MethodName)) ∈ lw_all := lw_g (lw_at lw_m5 239 rfl) rfl
theorem q1289 : (Jvm.Cond.code ({ cls := "VersionSolver$Gathering", name := "finds", desc := "()Z" } : Jvm.MethodName) prog_8_method_2_code (1 : Nat) (Option.some Jvm.ClassFile.FieldType.boolean)) ∈ lw_all := lw_g (lw_at lw_m6 0 rfl) rfl
theorem q1415 : (Jvm.Cond.instantiable "VersionSolver$Gathering" (7 : Nat)) ∈ lw_all := lw_g (lw_at lw_m6 126 rfl) rfl
theorem q1417 : (Jvm.Cond.instanceMethod ({ cls := "VersionSolver$Gathering", name := "<init>", desc := "(LVersionSolver$Board;II)V" } : Jvm.MethodName)) ∈ lw_all := lw_g (lw_at lw_m6 128 rfl) rfl
theorem q1418 : (Jvm.Cond.code ({ cls := "VersionSolver$Gathering", name := "<init>", desc := "(LVersionSolver$Board;II)V" } : Jvm.MethodName) prog_8_method_1_code (4 : Nat) (Option.none : Option Jvm.ClassFile.FieldType)) ∈ lw_all := lw_g (lw_at lw_m6 129 rfl) rfl
theorem q1419 : (Jvm.Cond.methodLink "VersionSolver$Gathering" (1 : Nat) ({ cls := "VersionSolver$Search", name := "<init>", desc := "(LVersionSolver$Board;I)V" } : Jvm.MethodName)) ∈ lw_all := lw_g (lw_at lw_m6 130 rfl) rfl
theorem q1420 : (Jvm.Cond.fieldLink "VersionSolver$Gathering" (7 : Nat) "VersionSolver$Gathering" "pack" "I") ∈ lw_all := lw_g (lw_at lw_m6 131 rfl) rfl
theorem q1421 : (Jvm.Cond.fieldLink "VersionSolver$Gathering" (13 : Nat) "VersionSolver$Gathering" "found" "I") ∈ lw_all := lw_g (lw_at lw_m6 132 rfl) rfl
theorem q1422 : (Jvm.Cond.laysFinal "VersionSolver$Gathering" "VersionSolver$Gathering" "pack" "I") ∈ lw_all := lw_g (lw_at lw_m6 133 rfl) rfl
theorem q1423 : (Jvm.Cond.soleField "VersionSolver$Gathering" "pack") ∈ lw_all := lw_g (lw_at lw_m6 134 rfl) rfl
theorem q1424 : (Jvm.Cond.lays "VersionSolver$Gathering" "VersionSolver$Gathering" "found" "I") ∈ lw_all := lw_g (lw_at lw_m6 135 rfl) rfl
theorem q1425 : (Jvm.Cond.soleField "VersionSolver$Gathering" "found") ∈ lw_all := lw_g (lw_at lw_m6 136 rfl) rfl
theorem q1426 : (Jvm.Cond.laysFinal "VersionSolver$Gathering" "VersionSolver$Search" "board" "LVersionSolver$Board;") ∈ lw_all := lw_g (lw_at lw_m6 137 rfl) rfl
theorem q1427 : (Jvm.Cond.laysFinal "VersionSolver$Gathering" "VersionSolver$Search" "masks" "[I") ∈ lw_all := lw_g (lw_at lw_m6 138 rfl) rfl
theorem q1428 : (Jvm.Cond.laysFinal "VersionSolver$Gathering" "VersionSolver$Search" "order" "[I") ∈ lw_all := lw_g (lw_at lw_m6 139 rfl) rfl
theorem q1429 : (Jvm.Cond.laysFinal "VersionSolver$Gathering" "VersionSolver$Search" "rules" "I") ∈ lw_all := lw_g (lw_at lw_m6 140 rfl) rfl
theorem q1430 : (Jvm.Cond.laysFinal "VersionSolver$Gathering" "VersionSolver$Search" "states" "[I") ∈ lw_all := lw_g (lw_at lw_m6 141 rfl) rfl
theorem q1431 : (Jvm.Cond.superclass "VersionSolver$Gathering" "VersionSolver$Search") ∈ lw_all := lw_g (lw_at lw_m6 142 rfl) rfl
theorem q1433 : (Jvm.Cond.instanceMethod ({ cls := "VersionSolver$Gathering", name := "all", desc := "()I" } : Jvm.MethodName)) ∈ lw_all := lw_g (lw_at lw_m6 144 rfl) rfl
theorem q1434 : (Jvm.Cond.selects "VersionSolver$Gathering" ({ cls := "VersionSolver$Gathering", name := "all", desc := "()I" } : Jvm.MethodName) ({ cls := "VersionSolver$Gathering", name := "all", desc := "()I" } : Jvm.MethodName)) ∈ lw_all := lw_g (lw_at lw_m6 145 rfl) rfl
theorem q1435 : (Jvm.Cond.code ({ cls := "VersionSolver$Gathering", name := "all", desc := "()I" } : Jvm.MethodName) prog_8_method_3_code (2 : Nat) (Option.some Jvm.ClassFile.FieldType.int)) ∈ lw_all := lw_g (lw_at lw_m6 146 rfl) rfl
theorem q1436 : (Jvm.Cond.methodLink "VersionSolver$Gathering" (20 : Nat) ({ cls := "VersionSolver$Gathering", name := "goes", desc := "(I)Z" } : Jvm.MethodName)) ∈ lw_all := lw_g (lw_at lw_m6 147 rfl) rfl
theorem q1437 : (Jvm.Cond.sameMethod "VersionSolver$Gathering" "VersionSolver$Search" "goes" "(I)Z") ∈ lw_all := lw_g (lw_at lw_m6 148 rfl) rfl
theorem q1438 : (Jvm.Cond.selects "VersionSolver$Gathering" ({ cls := "VersionSolver$Gathering", name := "goes", desc := "(I)Z" } : Jvm.MethodName) ({ cls := "VersionSolver$Search", name := "goes", desc := "(I)Z" } : Jvm.MethodName)) ∈ lw_all := lw_g (lw_at lw_m6 149 rfl) rfl
theorem q2479 : (Jvm.Cond.selects "VersionSolver$Gathering" ({ cls := "VersionSolver$Search", name := "goes", desc := "(I)Z" } : Jvm.MethodName) ({ cls := "VersionSolver$Search", name := "goes", desc := "(I)Z" } : Jvm.MethodName)) ∈ lw_all := lw_g (lw_at lw_m10 230 rfl) rfl
theorem q2521 : (Jvm.Cond.castable "VersionSolver$Gathering" "java/lang/Object") ∈ lw_tbl := lw_at lw_m11 32 rfl
theorem in_X18 : ∀ w ∈ wsX180, w ∈ lw_all := lw_in wsX180 [1426, 1427, 1428, 1429, 1430, 1422, 1424] (by decide +kernel) (by decide +kernel)
/-! VersionSolver$Reader -/
set_option maxRecDepth 100000
def RX19 : String := "VersionSolver$Reader"
def TX19 : u_T := fun k => match k with
  | 0 => ("VersionSolver$Reader", "text", "Ljava/lang/CharSequence;", true)
  | _ => ("VersionSolver$Reader", "at", "I", false)
def tyX19 : Nat → FieldType := fun k => match k with
  | 0 => .object "java/lang/CharSequence"
  | _ => .int
abbrev wsX190 : List Cond := u_ws RX19 TX19 2
theorem nmX19 : ∀ a, a < 2 → ∀ b, b < 2 → a ≠ b → (TX19 a).2.1 ≠ (TX19 b).2.1 := by decide +kernel
theorem tyX19_ok : ∀ k, k < 2 → parseFieldDescriptor (TX19 k).2.2.1 = some (tyX19 k) := by decide +kernel
abbrev cX19_init : ByteArray := prog_14_method_1_code
def yX19_init : MethodName := ⟨RX19, "<init>", "(Ljava/lang/CharSequence;)V"⟩
def dkwX19_init_0 : List UInt8 := [42, 183, 0, 3, 42, 43, 181, 0, 9, 177]
abbrev dktX19_init_0 : List UInt8 := dkwX19_init_0 ++ []
theorem dksX19_init_0 : cX19_init.data.toList.drop 0 = dktX19_init_0 := by decide +kernel
theorem dX19_init_0 : decode cX19_init 0 = .ok (.aload_n 0, 1) := dk_42 (dk_at dksX19_init_0 0 rfl rfl)
theorem dX19_init_1 : decode cX19_init 1 = .ok (.invokespecial 3, 3) := dk_183 0 3 (dk_at dksX19_init_0 1 rfl rfl)
theorem dX19_init_4 : decode cX19_init 4 = .ok (.aload_n 0, 1) := dk_42 (dk_at dksX19_init_0 4 rfl rfl)
theorem dX19_init_5 : decode cX19_init 5 = .ok (.aload_n 1, 1) := dk_43 (dk_at dksX19_init_0 5 rfl rfl)
theorem dX19_init_6 : decode cX19_init 6 = .ok (.putfield 9, 3) := dk_181 0 9 (dk_at dksX19_init_0 6 rfl rfl)
theorem dX19_init_9 : decode cX19_init 9 = .ok (.return_, 1) := dk_177 (dk_at dksX19_init_0 9 rfl rfl)
abbrev cX19_items : ByteArray := prog_14_method_6_code
def yX19_items : MethodName := ⟨RX19, "items", "()Ljava/util/ArrayList;"⟩
def dkwX19_items_2 : List UInt8 := [182, 0, 64, 182, 0, 68, 87, 167, 255, 222, 43, 176]
abbrev dktX19_items_2 : List UInt8 := dkwX19_items_2 ++ []
def dkwX19_items_1 : List UInt8 := [180, 0, 9, 185, 0, 19, 1, 0, 162, 0, 24, 42, 16, 59, 16, 59, 182, 0, 49, 61, 43, 42]
abbrev dktX19_items_1 : List UInt8 := dkwX19_items_1 ++ dktX19_items_2
def dkwX19_items_0 : List UInt8 := [187, 0, 61, 89, 183, 0, 63, 76, 43, 42, 182, 0, 64, 182, 0, 68, 87, 42, 180, 0, 15, 42]
abbrev dktX19_items_0 : List UInt8 := dkwX19_items_0 ++ dktX19_items_1
theorem dksX19_items_0 : cX19_items.data.toList.drop 0 = dktX19_items_0 := by decide +kernel
theorem dksX19_items_1 : cX19_items.data.toList.drop 22 = dktX19_items_1 := dk_seg dksX19_items_0 22 rfl rfl
theorem dksX19_items_2 : cX19_items.data.toList.drop 44 = dktX19_items_2 := dk_seg dksX19_items_1 22 rfl rfl
theorem dX19_items_0 : decode cX19_items 0 = .ok (.new 61, 3) := dk_187 0 61 (dk_at dksX19_items_0 0 rfl rfl)
theorem dX19_items_3 : decode cX19_items 3 = .ok (.dup, 1) := dk_89 (dk_at dksX19_items_0 3 rfl rfl)
theorem dX19_items_4 : decode cX19_items 4 = .ok (.invokespecial 63, 3) := dk_183 0 63 (dk_at dksX19_items_0 4 rfl rfl)
theorem dX19_items_7 : decode cX19_items 7 = .ok (.astore_n 1, 1) := dk_76 (dk_at dksX19_items_0 7 rfl rfl)
theorem dX19_items_8 : decode cX19_items 8 = .ok (.aload_n 1, 1) := dk_43 (dk_at dksX19_items_0 8 rfl rfl)
theorem dX19_items_9 : decode cX19_items 9 = .ok (.aload_n 0, 1) := dk_42 (dk_at dksX19_items_0 9 rfl rfl)
theorem dX19_items_10 : decode cX19_items 10 = .ok (.invokevirtual 64, 3) := dk_182 0 64 (dk_at dksX19_items_0 10 rfl rfl)
theorem dX19_items_13 : decode cX19_items 13 = .ok (.invokevirtual 68, 3) := dk_182 0 68 (dk_at dksX19_items_0 13 rfl rfl)
theorem dX19_items_16 : decode cX19_items 16 = .ok (.pop, 1) := dk_87 (dk_at dksX19_items_0 16 rfl rfl)
theorem dX19_items_17 : decode cX19_items 17 = .ok (.aload_n 0, 1) := dk_42 (dk_at dksX19_items_0 17 rfl rfl)
theorem dX19_items_18 : decode cX19_items 18 = .ok (.getfield 15, 3) := dk_180 0 15 (dk_at dksX19_items_0 18 rfl rfl)
theorem dX19_items_21 : decode cX19_items 21 = .ok (.aload_n 0, 1) := dk_42 (dk_at dksX19_items_0 21 rfl rfl)
theorem dX19_items_22 : decode cX19_items 22 = .ok (.getfield 9, 3) := dk_180 0 9 (dk_at dksX19_items_1 0 rfl rfl)
theorem dX19_items_25 : decode cX19_items 25 = .ok (.invokeinterface 19 1, 5) := by decide +kernel
theorem dX19_items_30 : decode cX19_items 30 = .ok (.if_icmp .ge 24, 3) := dk_162 0 24 (dk_at dksX19_items_1 8 rfl rfl)
theorem dX19_items_33 : decode cX19_items 33 = .ok (.aload_n 0, 1) := dk_42 (dk_at dksX19_items_1 11 rfl rfl)
theorem dX19_items_34 : decode cX19_items 34 = .ok (.bipush 59, 2) := dk_16 59 (dk_at dksX19_items_1 12 rfl rfl)
theorem dX19_items_36 : decode cX19_items 36 = .ok (.bipush 59, 2) := dk_16 59 (dk_at dksX19_items_1 14 rfl rfl)
theorem dX19_items_38 : decode cX19_items 38 = .ok (.invokevirtual 49, 3) := dk_182 0 49 (dk_at dksX19_items_1 16 rfl rfl)
theorem dX19_items_41 : decode cX19_items 41 = .ok (.istore_n 2, 1) := dk_61 (dk_at dksX19_items_1 19 rfl rfl)
theorem dX19_items_42 : decode cX19_items 42 = .ok (.aload_n 1, 1) := dk_43 (dk_at dksX19_items_1 20 rfl rfl)
theorem dX19_items_43 : decode cX19_items 43 = .ok (.aload_n 0, 1) := dk_42 (dk_at dksX19_items_1 21 rfl rfl)
theorem dX19_items_44 : decode cX19_items 44 = .ok (.invokevirtual 64, 3) := dk_182 0 64 (dk_at dksX19_items_2 0 rfl rfl)
theorem dX19_items_47 : decode cX19_items 47 = .ok (.invokevirtual 68, 3) := dk_182 0 68 (dk_at dksX19_items_2 3 rfl rfl)
theorem dX19_items_50 : decode cX19_items 50 = .ok (.pop, 1) := dk_87 (dk_at dksX19_items_2 6 rfl rfl)
theorem dX19_items_51 : decode cX19_items 51 = .ok (.goto (-34), 3) := dk_167 255 222 (dk_at dksX19_items_2 7 rfl rfl)
theorem dX19_items_54 : decode cX19_items 54 = .ok (.aload_n 1, 1) := dk_43 (dk_at dksX19_items_2 10 rfl rfl)
theorem dX19_items_55 : decode cX19_items 55 = .ok (.areturn, 1) := dk_176 (dk_at dksX19_items_2 11 rfl rfl)
abbrev cX19_item : ByteArray := prog_14_method_5_code
def yX19_item : MethodName := ⟨RX19, "item", "()LVersionSolver$Item;"⟩
def dkwX19_item_7 : List UInt8 := [89, 6, 21, 4, 79, 89, 7, 42, 182, 0, 55, 79, 183, 0, 58, 176]
abbrev dktX19_item_7 : List UInt8 := dkwX19_item_7 ++ []
def dkwX19_item_6 : List UInt8 := [182, 0, 49, 54, 4, 187, 0, 53, 89, 8, 188, 10, 89, 3, 29, 79, 89, 4, 27, 79, 89, 5, 28, 79]
abbrev dktX19_item_6 : List UInt8 := dkwX19_item_6 ++ dktX19_item_7
def dkwX19_item_5 : List UInt8 := [160, 0, 7, 4, 167, 0, 4, 5, 62, 42, 89, 180, 0, 15, 4, 96, 181, 0, 15, 42, 16, 97, 16, 102]
abbrev dktX19_item_5 : List UInt8 := dkwX19_item_5 ++ dktX19_item_6
def dkwX19_item_4 : List UInt8 := [16, 33, 159, 0, 15, 187, 0, 36, 89, 42, 180, 0, 15, 183, 0, 38, 191, 42, 182, 0, 29, 16, 62]
abbrev dktX19_item_4 : List UInt8 := dkwX19_item_4 ++ dktX19_item_5
def dkwX19_item_3 : List UInt8 := [60, 42, 16, 48, 16, 52, 182, 0, 49, 61, 42, 182, 0, 29, 16, 62, 159, 0, 24, 42, 182, 0, 29]
abbrev dktX19_item_3 : List UInt8 := dkwX19_item_3 ++ dktX19_item_4
def dkwX19_item_2 : List UInt8 := [89, 6, 16, 251, 79, 89, 7, 42, 182, 0, 55, 79, 183, 0, 58, 176, 42, 16, 97, 16, 102, 182, 0, 49]
abbrev dktX19_item_2 : List UInt8 := dkwX19_item_2 ++ dktX19_item_3
def dkwX19_item_1 : List UInt8 := [182, 0, 49, 60, 187, 0, 53, 89, 8, 188, 10, 89, 3, 3, 79, 89, 4, 27, 79, 89, 5, 16, 251, 79]
abbrev dktX19_item_1 : List UInt8 := dkwX19_item_1 ++ dktX19_item_2
def dkwX19_item_0 : List UInt8 := [42, 182, 0, 29, 16, 62, 160, 0, 58, 42, 89, 180, 0, 15, 4, 96, 181, 0, 15, 42, 16, 97, 16, 102]
abbrev dktX19_item_0 : List UInt8 := dkwX19_item_0 ++ dktX19_item_1
theorem dksX19_item_0 : cX19_item.data.toList.drop 0 = dktX19_item_0 := by decide +kernel
theorem dksX19_item_1 : cX19_item.data.toList.drop 24 = dktX19_item_1 := dk_seg dksX19_item_0 24 rfl rfl
theorem dksX19_item_2 : cX19_item.data.toList.drop 48 = dktX19_item_2 := dk_seg dksX19_item_1 24 rfl rfl
theorem dksX19_item_3 : cX19_item.data.toList.drop 72 = dktX19_item_3 := dk_seg dksX19_item_2 24 rfl rfl
theorem dksX19_item_4 : cX19_item.data.toList.drop 95 = dktX19_item_4 := dk_seg dksX19_item_3 23 rfl rfl
theorem dksX19_item_5 : cX19_item.data.toList.drop 118 = dktX19_item_5 := dk_seg dksX19_item_4 23 rfl rfl
theorem dksX19_item_6 : cX19_item.data.toList.drop 142 = dktX19_item_6 := dk_seg dksX19_item_5 24 rfl rfl
theorem dksX19_item_7 : cX19_item.data.toList.drop 166 = dktX19_item_7 := dk_seg dksX19_item_6 24 rfl rfl
theorem dX19_item_0 : decode cX19_item 0 = .ok (.aload_n 0, 1) := dk_42 (dk_at dksX19_item_0 0 rfl rfl)
theorem dX19_item_1 : decode cX19_item 1 = .ok (.invokevirtual 29, 3) := dk_182 0 29 (dk_at dksX19_item_0 1 rfl rfl)
theorem dX19_item_4 : decode cX19_item 4 = .ok (.bipush 62, 2) := dk_16 62 (dk_at dksX19_item_0 4 rfl rfl)
theorem dX19_item_6 : decode cX19_item 6 = .ok (.if_icmp .ne 58, 3) := dk_160 0 58 (dk_at dksX19_item_0 6 rfl rfl)
theorem dX19_item_9 : decode cX19_item 9 = .ok (.aload_n 0, 1) := dk_42 (dk_at dksX19_item_0 9 rfl rfl)
theorem dX19_item_10 : decode cX19_item 10 = .ok (.dup, 1) := dk_89 (dk_at dksX19_item_0 10 rfl rfl)
theorem dX19_item_11 : decode cX19_item 11 = .ok (.getfield 15, 3) := dk_180 0 15 (dk_at dksX19_item_0 11 rfl rfl)
theorem dX19_item_14 : decode cX19_item 14 = .ok (.iconst 1, 1) := dk_4 (dk_at dksX19_item_0 14 rfl rfl)
theorem dX19_item_15 : decode cX19_item 15 = .ok (.iadd, 1) := dk_96 (dk_at dksX19_item_0 15 rfl rfl)
theorem dX19_item_16 : decode cX19_item 16 = .ok (.putfield 15, 3) := dk_181 0 15 (dk_at dksX19_item_0 16 rfl rfl)
theorem dX19_item_19 : decode cX19_item 19 = .ok (.aload_n 0, 1) := dk_42 (dk_at dksX19_item_0 19 rfl rfl)
theorem dX19_item_20 : decode cX19_item 20 = .ok (.bipush 97, 2) := dk_16 97 (dk_at dksX19_item_0 20 rfl rfl)
theorem dX19_item_22 : decode cX19_item 22 = .ok (.bipush 102, 2) := dk_16 102 (dk_at dksX19_item_0 22 rfl rfl)
theorem dX19_item_24 : decode cX19_item 24 = .ok (.invokevirtual 49, 3) := dk_182 0 49 (dk_at dksX19_item_1 0 rfl rfl)
theorem dX19_item_27 : decode cX19_item 27 = .ok (.istore_n 1, 1) := dk_60 (dk_at dksX19_item_1 3 rfl rfl)
theorem dX19_item_28 : decode cX19_item 28 = .ok (.new 53, 3) := dk_187 0 53 (dk_at dksX19_item_1 4 rfl rfl)
theorem dX19_item_31 : decode cX19_item 31 = .ok (.dup, 1) := dk_89 (dk_at dksX19_item_1 7 rfl rfl)
theorem dX19_item_32 : decode cX19_item 32 = .ok (.iconst 5, 1) := dk_8 (dk_at dksX19_item_1 8 rfl rfl)
theorem dX19_item_33 : decode cX19_item 33 = .ok (.newarray .int, 2) := dk_188_10 (dk_at dksX19_item_1 9 rfl rfl)
theorem dX19_item_35 : decode cX19_item 35 = .ok (.dup, 1) := dk_89 (dk_at dksX19_item_1 11 rfl rfl)
theorem dX19_item_36 : decode cX19_item 36 = .ok (.iconst 0, 1) := dk_3 (dk_at dksX19_item_1 12 rfl rfl)
theorem dX19_item_37 : decode cX19_item 37 = .ok (.iconst 0, 1) := dk_3 (dk_at dksX19_item_1 13 rfl rfl)
theorem dX19_item_38 : decode cX19_item 38 = .ok (.iastore, 1) := dk_79 (dk_at dksX19_item_1 14 rfl rfl)
theorem dX19_item_39 : decode cX19_item 39 = .ok (.dup, 1) := dk_89 (dk_at dksX19_item_1 15 rfl rfl)
theorem dX19_item_40 : decode cX19_item 40 = .ok (.iconst 1, 1) := dk_4 (dk_at dksX19_item_1 16 rfl rfl)
theorem dX19_item_41 : decode cX19_item 41 = .ok (.iload_n 1, 1) := dk_27 (dk_at dksX19_item_1 17 rfl rfl)
theorem dX19_item_42 : decode cX19_item 42 = .ok (.iastore, 1) := dk_79 (dk_at dksX19_item_1 18 rfl rfl)
theorem dX19_item_43 : decode cX19_item 43 = .ok (.dup, 1) := dk_89 (dk_at dksX19_item_1 19 rfl rfl)
theorem dX19_item_44 : decode cX19_item 44 = .ok (.iconst 2, 1) := dk_5 (dk_at dksX19_item_1 20 rfl rfl)
theorem dX19_item_45 : decode cX19_item 45 = .ok (.bipush (-5), 2) := dk_16 251 (dk_at dksX19_item_1 21 rfl rfl)
theorem dX19_item_47 : decode cX19_item 47 = .ok (.iastore, 1) := dk_79 (dk_at dksX19_item_1 23 rfl rfl)
theorem dX19_item_48 : decode cX19_item 48 = .ok (.dup, 1) := dk_89 (dk_at dksX19_item_2 0 rfl rfl)
theorem dX19_item_49 : decode cX19_item 49 = .ok (.iconst 3, 1) := dk_6 (dk_at dksX19_item_2 1 rfl rfl)
theorem dX19_item_50 : decode cX19_item 50 = .ok (.bipush (-5), 2) := dk_16 251 (dk_at dksX19_item_2 2 rfl rfl)
theorem dX19_item_52 : decode cX19_item 52 = .ok (.iastore, 1) := dk_79 (dk_at dksX19_item_2 4 rfl rfl)
theorem dX19_item_53 : decode cX19_item 53 = .ok (.dup, 1) := dk_89 (dk_at dksX19_item_2 5 rfl rfl)
theorem dX19_item_54 : decode cX19_item 54 = .ok (.iconst 4, 1) := dk_7 (dk_at dksX19_item_2 6 rfl rfl)
theorem dX19_item_55 : decode cX19_item 55 = .ok (.aload_n 0, 1) := dk_42 (dk_at dksX19_item_2 7 rfl rfl)
theorem dX19_item_56 : decode cX19_item 56 = .ok (.invokevirtual 55, 3) := dk_182 0 55 (dk_at dksX19_item_2 8 rfl rfl)
theorem dX19_item_59 : decode cX19_item 59 = .ok (.iastore, 1) := dk_79 (dk_at dksX19_item_2 11 rfl rfl)
theorem dX19_item_60 : decode cX19_item 60 = .ok (.invokespecial 58, 3) := dk_183 0 58 (dk_at dksX19_item_2 12 rfl rfl)
theorem dX19_item_63 : decode cX19_item 63 = .ok (.areturn, 1) := dk_176 (dk_at dksX19_item_2 15 rfl rfl)
theorem dX19_item_64 : decode cX19_item 64 = .ok (.aload_n 0, 1) := dk_42 (dk_at dksX19_item_2 16 rfl rfl)
theorem dX19_item_65 : decode cX19_item 65 = .ok (.bipush 97, 2) := dk_16 97 (dk_at dksX19_item_2 17 rfl rfl)
theorem dX19_item_67 : decode cX19_item 67 = .ok (.bipush 102, 2) := dk_16 102 (dk_at dksX19_item_2 19 rfl rfl)
theorem dX19_item_69 : decode cX19_item 69 = .ok (.invokevirtual 49, 3) := dk_182 0 49 (dk_at dksX19_item_2 21 rfl rfl)
theorem dX19_item_72 : decode cX19_item 72 = .ok (.istore_n 1, 1) := dk_60 (dk_at dksX19_item_3 0 rfl rfl)
theorem dX19_item_73 : decode cX19_item 73 = .ok (.aload_n 0, 1) := dk_42 (dk_at dksX19_item_3 1 rfl rfl)
theorem dX19_item_74 : decode cX19_item 74 = .ok (.bipush 48, 2) := dk_16 48 (dk_at dksX19_item_3 2 rfl rfl)
theorem dX19_item_76 : decode cX19_item 76 = .ok (.bipush 52, 2) := dk_16 52 (dk_at dksX19_item_3 4 rfl rfl)
theorem dX19_item_78 : decode cX19_item 78 = .ok (.invokevirtual 49, 3) := dk_182 0 49 (dk_at dksX19_item_3 6 rfl rfl)
theorem dX19_item_81 : decode cX19_item 81 = .ok (.istore_n 2, 1) := dk_61 (dk_at dksX19_item_3 9 rfl rfl)
theorem dX19_item_82 : decode cX19_item 82 = .ok (.aload_n 0, 1) := dk_42 (dk_at dksX19_item_3 10 rfl rfl)
theorem dX19_item_83 : decode cX19_item 83 = .ok (.invokevirtual 29, 3) := dk_182 0 29 (dk_at dksX19_item_3 11 rfl rfl)
theorem dX19_item_86 : decode cX19_item 86 = .ok (.bipush 62, 2) := dk_16 62 (dk_at dksX19_item_3 14 rfl rfl)
theorem dX19_item_88 : decode cX19_item 88 = .ok (.if_icmp .eq 24, 3) := dk_159 0 24 (dk_at dksX19_item_3 16 rfl rfl)
theorem dX19_item_91 : decode cX19_item 91 = .ok (.aload_n 0, 1) := dk_42 (dk_at dksX19_item_3 19 rfl rfl)
theorem dX19_item_92 : decode cX19_item 92 = .ok (.invokevirtual 29, 3) := dk_182 0 29 (dk_at dksX19_item_3 20 rfl rfl)
theorem dX19_item_95 : decode cX19_item 95 = .ok (.bipush 33, 2) := dk_16 33 (dk_at dksX19_item_4 0 rfl rfl)
theorem dX19_item_97 : decode cX19_item 97 = .ok (.if_icmp .eq 15, 3) := dk_159 0 15 (dk_at dksX19_item_4 2 rfl rfl)
theorem dX19_item_100 : decode cX19_item 100 = .ok (.new 36, 3) := dk_187 0 36 (dk_at dksX19_item_4 5 rfl rfl)
theorem dX19_item_103 : decode cX19_item 103 = .ok (.dup, 1) := dk_89 (dk_at dksX19_item_4 8 rfl rfl)
theorem dX19_item_104 : decode cX19_item 104 = .ok (.aload_n 0, 1) := dk_42 (dk_at dksX19_item_4 9 rfl rfl)
theorem dX19_item_105 : decode cX19_item 105 = .ok (.getfield 15, 3) := dk_180 0 15 (dk_at dksX19_item_4 10 rfl rfl)
theorem dX19_item_108 : decode cX19_item 108 = .ok (.invokespecial 38, 3) := dk_183 0 38 (dk_at dksX19_item_4 13 rfl rfl)
theorem dX19_item_111 : decode cX19_item 111 = .ok (.athrow, 1) := dk_191 (dk_at dksX19_item_4 16 rfl rfl)
theorem dX19_item_112 : decode cX19_item 112 = .ok (.aload_n 0, 1) := dk_42 (dk_at dksX19_item_4 17 rfl rfl)
theorem dX19_item_113 : decode cX19_item 113 = .ok (.invokevirtual 29, 3) := dk_182 0 29 (dk_at dksX19_item_4 18 rfl rfl)
theorem dX19_item_116 : decode cX19_item 116 = .ok (.bipush 62, 2) := dk_16 62 (dk_at dksX19_item_4 21 rfl rfl)
theorem dX19_item_118 : decode cX19_item 118 = .ok (.if_icmp .ne 7, 3) := dk_160 0 7 (dk_at dksX19_item_5 0 rfl rfl)
theorem dX19_item_121 : decode cX19_item 121 = .ok (.iconst 1, 1) := dk_4 (dk_at dksX19_item_5 3 rfl rfl)
theorem dX19_item_122 : decode cX19_item 122 = .ok (.goto 4, 3) := dk_167 0 4 (dk_at dksX19_item_5 4 rfl rfl)
theorem dX19_item_125 : decode cX19_item 125 = .ok (.iconst 2, 1) := dk_5 (dk_at dksX19_item_5 7 rfl rfl)
theorem dX19_item_126 : decode cX19_item 126 = .ok (.istore_n 3, 1) := dk_62 (dk_at dksX19_item_5 8 rfl rfl)
theorem dX19_item_127 : decode cX19_item 127 = .ok (.aload_n 0, 1) := dk_42 (dk_at dksX19_item_5 9 rfl rfl)
theorem dX19_item_128 : decode cX19_item 128 = .ok (.dup, 1) := dk_89 (dk_at dksX19_item_5 10 rfl rfl)
theorem dX19_item_129 : decode cX19_item 129 = .ok (.getfield 15, 3) := dk_180 0 15 (dk_at dksX19_item_5 11 rfl rfl)
theorem dX19_item_132 : decode cX19_item 132 = .ok (.iconst 1, 1) := dk_4 (dk_at dksX19_item_5 14 rfl rfl)
theorem dX19_item_133 : decode cX19_item 133 = .ok (.iadd, 1) := dk_96 (dk_at dksX19_item_5 15 rfl rfl)
theorem dX19_item_134 : decode cX19_item 134 = .ok (.putfield 15, 3) := dk_181 0 15 (dk_at dksX19_item_5 16 rfl rfl)
theorem dX19_item_137 : decode cX19_item 137 = .ok (.aload_n 0, 1) := dk_42 (dk_at dksX19_item_5 19 rfl rfl)
theorem dX19_item_138 : decode cX19_item 138 = .ok (.bipush 97, 2) := dk_16 97 (dk_at dksX19_item_5 20 rfl rfl)
theorem dX19_item_140 : decode cX19_item 140 = .ok (.bipush 102, 2) := dk_16 102 (dk_at dksX19_item_5 22 rfl rfl)
theorem dX19_item_142 : decode cX19_item 142 = .ok (.invokevirtual 49, 3) := dk_182 0 49 (dk_at dksX19_item_6 0 rfl rfl)
theorem dX19_item_145 : decode cX19_item 145 = .ok (.istore 4, 2) := dk_54 4 (dk_at dksX19_item_6 3 rfl rfl)
theorem dX19_item_147 : decode cX19_item 147 = .ok (.new 53, 3) := dk_187 0 53 (dk_at dksX19_item_6 5 rfl rfl)
theorem dX19_item_150 : decode cX19_item 150 = .ok (.dup, 1) := dk_89 (dk_at dksX19_item_6 8 rfl rfl)
theorem dX19_item_151 : decode cX19_item 151 = .ok (.iconst 5, 1) := dk_8 (dk_at dksX19_item_6 9 rfl rfl)
theorem dX19_item_152 : decode cX19_item 152 = .ok (.newarray .int, 2) := dk_188_10 (dk_at dksX19_item_6 10 rfl rfl)
theorem dX19_item_154 : decode cX19_item 154 = .ok (.dup, 1) := dk_89 (dk_at dksX19_item_6 12 rfl rfl)
theorem dX19_item_155 : decode cX19_item 155 = .ok (.iconst 0, 1) := dk_3 (dk_at dksX19_item_6 13 rfl rfl)
theorem dX19_item_156 : decode cX19_item 156 = .ok (.iload_n 3, 1) := dk_29 (dk_at dksX19_item_6 14 rfl rfl)
theorem dX19_item_157 : decode cX19_item 157 = .ok (.iastore, 1) := dk_79 (dk_at dksX19_item_6 15 rfl rfl)
theorem dX19_item_158 : decode cX19_item 158 = .ok (.dup, 1) := dk_89 (dk_at dksX19_item_6 16 rfl rfl)
theorem dX19_item_159 : decode cX19_item 159 = .ok (.iconst 1, 1) := dk_4 (dk_at dksX19_item_6 17 rfl rfl)
theorem dX19_item_160 : decode cX19_item 160 = .ok (.iload_n 1, 1) := dk_27 (dk_at dksX19_item_6 18 rfl rfl)
theorem dX19_item_161 : decode cX19_item 161 = .ok (.iastore, 1) := dk_79 (dk_at dksX19_item_6 19 rfl rfl)
theorem dX19_item_162 : decode cX19_item 162 = .ok (.dup, 1) := dk_89 (dk_at dksX19_item_6 20 rfl rfl)
theorem dX19_item_163 : decode cX19_item 163 = .ok (.iconst 2, 1) := dk_5 (dk_at dksX19_item_6 21 rfl rfl)
theorem dX19_item_164 : decode cX19_item 164 = .ok (.iload_n 2, 1) := dk_28 (dk_at dksX19_item_6 22 rfl rfl)
theorem dX19_item_165 : decode cX19_item 165 = .ok (.iastore, 1) := dk_79 (dk_at dksX19_item_6 23 rfl rfl)
theorem dX19_item_166 : decode cX19_item 166 = .ok (.dup, 1) := dk_89 (dk_at dksX19_item_7 0 rfl rfl)
theorem dX19_item_167 : decode cX19_item 167 = .ok (.iconst 3, 1) := dk_6 (dk_at dksX19_item_7 1 rfl rfl)
theorem dX19_item_168 : decode cX19_item 168 = .ok (.iload 4, 2) := dk_21 4 (dk_at dksX19_item_7 2 rfl rfl)
theorem dX19_item_170 : decode cX19_item 170 = .ok (.iastore, 1) := dk_79 (dk_at dksX19_item_7 4 rfl rfl)
theorem dX19_item_171 : decode cX19_item 171 = .ok (.dup, 1) := dk_89 (dk_at dksX19_item_7 5 rfl rfl)
theorem dX19_item_172 : decode cX19_item 172 = .ok (.iconst 4, 1) := dk_7 (dk_at dksX19_item_7 6 rfl rfl)
theorem dX19_item_173 : decode cX19_item 173 = .ok (.aload_n 0, 1) := dk_42 (dk_at dksX19_item_7 7 rfl rfl)
theorem dX19_item_174 : decode cX19_item 174 = .ok (.invokevirtual 55, 3) := dk_182 0 55 (dk_at dksX19_item_7 8 rfl rfl)
theorem dX19_item_177 : decode cX19_item 177 = .ok (.iastore, 1) := dk_79 (dk_at dksX19_item_7 11 rfl rfl)
theorem dX19_item_178 : decode cX19_item 178 = .ok (.invokespecial 58, 3) := dk_183 0 58 (dk_at dksX19_item_7 12 rfl rfl)
theorem dX19_item_181 : decode cX19_item 181 = .ok (.areturn, 1) := dk_176 (dk_at dksX19_item_7 15 rfl rfl)
abbrev cX19_here : ByteArray := prog_14_method_2_code
def yX19_here : MethodName := ⟨RX19, "here", "()I"⟩
def dkwX19_here_1 : List UInt8 := [185, 0, 25, 2, 0, 167, 0, 4, 2, 172]
abbrev dktX19_here_1 : List UInt8 := dkwX19_here_1 ++ []
def dkwX19_here_0 : List UInt8 := [42, 180, 0, 15, 42, 180, 0, 9, 185, 0, 19, 1, 0, 162, 0, 19, 42, 180, 0, 9, 42, 180, 0, 15]
abbrev dktX19_here_0 : List UInt8 := dkwX19_here_0 ++ dktX19_here_1
theorem dksX19_here_0 : cX19_here.data.toList.drop 0 = dktX19_here_0 := by decide +kernel
theorem dksX19_here_1 : cX19_here.data.toList.drop 24 = dktX19_here_1 := dk_seg dksX19_here_0 24 rfl rfl
theorem dX19_here_0 : decode cX19_here 0 = .ok (.aload_n 0, 1) := dk_42 (dk_at dksX19_here_0 0 rfl rfl)
theorem dX19_here_1 : decode cX19_here 1 = .ok (.getfield 15, 3) := dk_180 0 15 (dk_at dksX19_here_0 1 rfl rfl)
theorem dX19_here_4 : decode cX19_here 4 = .ok (.aload_n 0, 1) := dk_42 (dk_at dksX19_here_0 4 rfl rfl)
theorem dX19_here_5 : decode cX19_here 5 = .ok (.getfield 9, 3) := dk_180 0 9 (dk_at dksX19_here_0 5 rfl rfl)
theorem dX19_here_8 : decode cX19_here 8 = .ok (.invokeinterface 19 1, 5) := by decide +kernel
theorem dX19_here_13 : decode cX19_here 13 = .ok (.if_icmp .ge 19, 3) := dk_162 0 19 (dk_at dksX19_here_0 13 rfl rfl)
theorem dX19_here_16 : decode cX19_here 16 = .ok (.aload_n 0, 1) := dk_42 (dk_at dksX19_here_0 16 rfl rfl)
theorem dX19_here_17 : decode cX19_here 17 = .ok (.getfield 9, 3) := dk_180 0 9 (dk_at dksX19_here_0 17 rfl rfl)
theorem dX19_here_20 : decode cX19_here 20 = .ok (.aload_n 0, 1) := dk_42 (dk_at dksX19_here_0 20 rfl rfl)
theorem dX19_here_21 : decode cX19_here 21 = .ok (.getfield 15, 3) := dk_180 0 15 (dk_at dksX19_here_0 21 rfl rfl)
theorem dX19_here_24 : decode cX19_here 24 = .ok (.invokeinterface 25 2, 5) := by decide +kernel
theorem dX19_here_29 : decode cX19_here 29 = .ok (.goto 4, 3) := dk_167 0 4 (dk_at dksX19_here_1 5 rfl rfl)
theorem dX19_here_32 : decode cX19_here 32 = .ok (.iconst (-1), 1) := dk_2 (dk_at dksX19_here_1 8 rfl rfl)
theorem dX19_here_33 : decode cX19_here 33 = .ok (.ireturn, 1) := dk_172 (dk_at dksX19_here_1 9 rfl rfl)
abbrev cX19_takes : ByteArray := prog_14_method_3_code
def yX19_takes : MethodName := ⟨RX19, "takes", "(II)I"⟩
def dkwX19_takes_2 : List UInt8 := [185, 0, 25, 2, 0, 27, 100, 172]
abbrev dktX19_takes_2 : List UInt8 := dkwX19_takes_2 ++ []
def dkwX19_takes_1 : List UInt8 := [42, 89, 180, 0, 15, 4, 96, 181, 0, 15, 42, 180, 0, 9, 42, 180, 0, 15, 4, 100]
abbrev dktX19_takes_1 : List UInt8 := dkwX19_takes_1 ++ dktX19_takes_2
def dkwX19_takes_0 : List UInt8 := [42, 182, 0, 29, 27, 28, 184, 0, 32, 154, 0, 15, 187, 0, 36, 89, 42, 180, 0, 15, 183, 0, 38, 191]
abbrev dktX19_takes_0 : List UInt8 := dkwX19_takes_0 ++ dktX19_takes_1
theorem dksX19_takes_0 : cX19_takes.data.toList.drop 0 = dktX19_takes_0 := by decide +kernel
theorem dksX19_takes_1 : cX19_takes.data.toList.drop 24 = dktX19_takes_1 := dk_seg dksX19_takes_0 24 rfl rfl
theorem dksX19_takes_2 : cX19_takes.data.toList.drop 44 = dktX19_takes_2 := dk_seg dksX19_takes_1 20 rfl rfl
theorem dX19_takes_0 : decode cX19_takes 0 = .ok (.aload_n 0, 1) := dk_42 (dk_at dksX19_takes_0 0 rfl rfl)
theorem dX19_takes_1 : decode cX19_takes 1 = .ok (.invokevirtual 29, 3) := dk_182 0 29 (dk_at dksX19_takes_0 1 rfl rfl)
theorem dX19_takes_4 : decode cX19_takes 4 = .ok (.iload_n 1, 1) := dk_27 (dk_at dksX19_takes_0 4 rfl rfl)
theorem dX19_takes_5 : decode cX19_takes 5 = .ok (.iload_n 2, 1) := dk_28 (dk_at dksX19_takes_0 5 rfl rfl)
theorem dX19_takes_6 : decode cX19_takes 6 = .ok (.invokestatic 32, 3) := dk_184 0 32 (dk_at dksX19_takes_0 6 rfl rfl)
theorem dX19_takes_9 : decode cX19_takes 9 = .ok (.ifCond .ne 15, 3) := dk_154 0 15 (dk_at dksX19_takes_0 9 rfl rfl)
theorem dX19_takes_12 : decode cX19_takes 12 = .ok (.new 36, 3) := dk_187 0 36 (dk_at dksX19_takes_0 12 rfl rfl)
theorem dX19_takes_15 : decode cX19_takes 15 = .ok (.dup, 1) := dk_89 (dk_at dksX19_takes_0 15 rfl rfl)
theorem dX19_takes_16 : decode cX19_takes 16 = .ok (.aload_n 0, 1) := dk_42 (dk_at dksX19_takes_0 16 rfl rfl)
theorem dX19_takes_17 : decode cX19_takes 17 = .ok (.getfield 15, 3) := dk_180 0 15 (dk_at dksX19_takes_0 17 rfl rfl)
theorem dX19_takes_20 : decode cX19_takes 20 = .ok (.invokespecial 38, 3) := dk_183 0 38 (dk_at dksX19_takes_0 20 rfl rfl)
theorem dX19_takes_23 : decode cX19_takes 23 = .ok (.athrow, 1) := dk_191 (dk_at dksX19_takes_0 23 rfl rfl)
theorem dX19_takes_24 : decode cX19_takes 24 = .ok (.aload_n 0, 1) := dk_42 (dk_at dksX19_takes_1 0 rfl rfl)
theorem dX19_takes_25 : decode cX19_takes 25 = .ok (.dup, 1) := dk_89 (dk_at dksX19_takes_1 1 rfl rfl)
theorem dX19_takes_26 : decode cX19_takes 26 = .ok (.getfield 15, 3) := dk_180 0 15 (dk_at dksX19_takes_1 2 rfl rfl)
theorem dX19_takes_29 : decode cX19_takes 29 = .ok (.iconst 1, 1) := dk_4 (dk_at dksX19_takes_1 5 rfl rfl)
theorem dX19_takes_30 : decode cX19_takes 30 = .ok (.iadd, 1) := dk_96 (dk_at dksX19_takes_1 6 rfl rfl)
theorem dX19_takes_31 : decode cX19_takes 31 = .ok (.putfield 15, 3) := dk_181 0 15 (dk_at dksX19_takes_1 7 rfl rfl)
theorem dX19_takes_34 : decode cX19_takes 34 = .ok (.aload_n 0, 1) := dk_42 (dk_at dksX19_takes_1 10 rfl rfl)
theorem dX19_takes_35 : decode cX19_takes 35 = .ok (.getfield 9, 3) := dk_180 0 9 (dk_at dksX19_takes_1 11 rfl rfl)
theorem dX19_takes_38 : decode cX19_takes 38 = .ok (.aload_n 0, 1) := dk_42 (dk_at dksX19_takes_1 14 rfl rfl)
theorem dX19_takes_39 : decode cX19_takes 39 = .ok (.getfield 15, 3) := dk_180 0 15 (dk_at dksX19_takes_1 15 rfl rfl)
theorem dX19_takes_42 : decode cX19_takes 42 = .ok (.iconst 1, 1) := dk_4 (dk_at dksX19_takes_1 18 rfl rfl)
theorem dX19_takes_43 : decode cX19_takes 43 = .ok (.isub, 1) := dk_100 (dk_at dksX19_takes_1 19 rfl rfl)
theorem dX19_takes_44 : decode cX19_takes 44 = .ok (.invokeinterface 25 2, 5) := by decide +kernel
theorem dX19_takes_49 : decode cX19_takes 49 = .ok (.iload_n 1, 1) := dk_27 (dk_at dksX19_takes_2 5 rfl rfl)
theorem dX19_takes_50 : decode cX19_takes 50 = .ok (.isub, 1) := dk_100 (dk_at dksX19_takes_2 6 rfl rfl)
theorem dX19_takes_51 : decode cX19_takes 51 = .ok (.ireturn, 1) := dk_172 (dk_at dksX19_takes_2 7 rfl rfl)
abbrev cX19_range : ByteArray := prog_14_method_4_code
def yX19_range : MethodName := ⟨RX19, "range", "()I"⟩
def dkwX19_range_5 : List UInt8 := [182, 0, 49, 96, 61, 28, 172]
abbrev dktX19_range_5 : List UInt8 := dkwX19_range_5 ++ []
def dkwX19_range_4 : List UInt8 := [182, 0, 29, 16, 45, 160, 0, 24, 42, 89, 180, 0, 15, 4, 96, 181, 0, 15, 28, 42, 16, 48, 16, 57]
abbrev dktX19_range_4 : List UInt8 := dkwX19_range_4 ++ dktX19_range_5
def dkwX19_range_3 : List UInt8 := [16, 46, 16, 46, 182, 0, 49, 62, 28, 16, 10, 42, 16, 48, 16, 57, 182, 0, 49, 104, 96, 61, 42]
abbrev dktX19_range_3 : List UInt8 := dkwX19_range_3 ++ dktX19_range_4
def dkwX19_range_2 : List UInt8 := [154, 0, 5, 3, 172, 17, 3, 232, 27, 104, 16, 100, 42, 16, 48, 16, 57, 182, 0, 49, 104, 96, 61, 42]
abbrev dktX19_range_2 : List UInt8 := dkwX19_range_2 ++ dktX19_range_3
def dkwX19_range_1 : List UInt8 := [187, 0, 36, 89, 42, 180, 0, 15, 183, 0, 38, 191, 42, 89, 180, 0, 15, 4, 96, 181, 0, 15, 27]
abbrev dktX19_range_1 : List UInt8 := dkwX19_range_1 ++ dktX19_range_2
def dkwX19_range_0 : List UInt8 := [18, 41, 42, 182, 0, 29, 146, 182, 0, 43, 60, 42, 182, 0, 29, 155, 0, 7, 27, 156, 0, 15]
abbrev dktX19_range_0 : List UInt8 := dkwX19_range_0 ++ dktX19_range_1
theorem dksX19_range_0 : cX19_range.data.toList.drop 0 = dktX19_range_0 := by decide +kernel
theorem dksX19_range_1 : cX19_range.data.toList.drop 22 = dktX19_range_1 := dk_seg dksX19_range_0 22 rfl rfl
theorem dksX19_range_2 : cX19_range.data.toList.drop 45 = dktX19_range_2 := dk_seg dksX19_range_1 23 rfl rfl
theorem dksX19_range_3 : cX19_range.data.toList.drop 69 = dktX19_range_3 := dk_seg dksX19_range_2 24 rfl rfl
theorem dksX19_range_4 : cX19_range.data.toList.drop 92 = dktX19_range_4 := dk_seg dksX19_range_3 23 rfl rfl
theorem dksX19_range_5 : cX19_range.data.toList.drop 116 = dktX19_range_5 := dk_seg dksX19_range_4 24 rfl rfl
theorem dX19_range_0 : decode cX19_range 0 = .ok (.ldc 41, 2) := dk_18 41 (dk_at dksX19_range_0 0 rfl rfl)
theorem dX19_range_2 : decode cX19_range 2 = .ok (.aload_n 0, 1) := dk_42 (dk_at dksX19_range_0 2 rfl rfl)
theorem dX19_range_3 : decode cX19_range 3 = .ok (.invokevirtual 29, 3) := dk_182 0 29 (dk_at dksX19_range_0 3 rfl rfl)
theorem dX19_range_6 : decode cX19_range 6 = .ok (.i2c, 1) := dk_146 (dk_at dksX19_range_0 6 rfl rfl)
theorem dX19_range_7 : decode cX19_range 7 = .ok (.invokevirtual 43, 3) := dk_182 0 43 (dk_at dksX19_range_0 7 rfl rfl)
theorem dX19_range_10 : decode cX19_range 10 = .ok (.istore_n 1, 1) := dk_60 (dk_at dksX19_range_0 10 rfl rfl)
theorem dX19_range_11 : decode cX19_range 11 = .ok (.aload_n 0, 1) := dk_42 (dk_at dksX19_range_0 11 rfl rfl)
theorem dX19_range_12 : decode cX19_range 12 = .ok (.invokevirtual 29, 3) := dk_182 0 29 (dk_at dksX19_range_0 12 rfl rfl)
theorem dX19_range_15 : decode cX19_range 15 = .ok (.ifCond .lt 7, 3) := dk_155 0 7 (dk_at dksX19_range_0 15 rfl rfl)
theorem dX19_range_18 : decode cX19_range 18 = .ok (.iload_n 1, 1) := dk_27 (dk_at dksX19_range_0 18 rfl rfl)
theorem dX19_range_19 : decode cX19_range 19 = .ok (.ifCond .ge 15, 3) := dk_156 0 15 (dk_at dksX19_range_0 19 rfl rfl)
theorem dX19_range_22 : decode cX19_range 22 = .ok (.new 36, 3) := dk_187 0 36 (dk_at dksX19_range_1 0 rfl rfl)
theorem dX19_range_25 : decode cX19_range 25 = .ok (.dup, 1) := dk_89 (dk_at dksX19_range_1 3 rfl rfl)
theorem dX19_range_26 : decode cX19_range 26 = .ok (.aload_n 0, 1) := dk_42 (dk_at dksX19_range_1 4 rfl rfl)
theorem dX19_range_27 : decode cX19_range 27 = .ok (.getfield 15, 3) := dk_180 0 15 (dk_at dksX19_range_1 5 rfl rfl)
theorem dX19_range_30 : decode cX19_range 30 = .ok (.invokespecial 38, 3) := dk_183 0 38 (dk_at dksX19_range_1 8 rfl rfl)
theorem dX19_range_33 : decode cX19_range 33 = .ok (.athrow, 1) := dk_191 (dk_at dksX19_range_1 11 rfl rfl)
theorem dX19_range_34 : decode cX19_range 34 = .ok (.aload_n 0, 1) := dk_42 (dk_at dksX19_range_1 12 rfl rfl)
theorem dX19_range_35 : decode cX19_range 35 = .ok (.dup, 1) := dk_89 (dk_at dksX19_range_1 13 rfl rfl)
theorem dX19_range_36 : decode cX19_range 36 = .ok (.getfield 15, 3) := dk_180 0 15 (dk_at dksX19_range_1 14 rfl rfl)
theorem dX19_range_39 : decode cX19_range 39 = .ok (.iconst 1, 1) := dk_4 (dk_at dksX19_range_1 17 rfl rfl)
theorem dX19_range_40 : decode cX19_range 40 = .ok (.iadd, 1) := dk_96 (dk_at dksX19_range_1 18 rfl rfl)
theorem dX19_range_41 : decode cX19_range 41 = .ok (.putfield 15, 3) := dk_181 0 15 (dk_at dksX19_range_1 19 rfl rfl)
theorem dX19_range_44 : decode cX19_range 44 = .ok (.iload_n 1, 1) := dk_27 (dk_at dksX19_range_1 22 rfl rfl)
theorem dX19_range_45 : decode cX19_range 45 = .ok (.ifCond .ne 5, 3) := dk_154 0 5 (dk_at dksX19_range_2 0 rfl rfl)
theorem dX19_range_48 : decode cX19_range 48 = .ok (.iconst 0, 1) := dk_3 (dk_at dksX19_range_2 3 rfl rfl)
theorem dX19_range_49 : decode cX19_range 49 = .ok (.ireturn, 1) := dk_172 (dk_at dksX19_range_2 4 rfl rfl)
theorem dX19_range_50 : decode cX19_range 50 = .ok (.sipush 1000, 3) := dk_17 3 232 (dk_at dksX19_range_2 5 rfl rfl)
theorem dX19_range_53 : decode cX19_range 53 = .ok (.iload_n 1, 1) := dk_27 (dk_at dksX19_range_2 8 rfl rfl)
theorem dX19_range_54 : decode cX19_range 54 = .ok (.imul, 1) := dk_104 (dk_at dksX19_range_2 9 rfl rfl)
theorem dX19_range_55 : decode cX19_range 55 = .ok (.bipush 100, 2) := dk_16 100 (dk_at dksX19_range_2 10 rfl rfl)
theorem dX19_range_57 : decode cX19_range 57 = .ok (.aload_n 0, 1) := dk_42 (dk_at dksX19_range_2 12 rfl rfl)
theorem dX19_range_58 : decode cX19_range 58 = .ok (.bipush 48, 2) := dk_16 48 (dk_at dksX19_range_2 13 rfl rfl)
theorem dX19_range_60 : decode cX19_range 60 = .ok (.bipush 57, 2) := dk_16 57 (dk_at dksX19_range_2 15 rfl rfl)
theorem dX19_range_62 : decode cX19_range 62 = .ok (.invokevirtual 49, 3) := dk_182 0 49 (dk_at dksX19_range_2 17 rfl rfl)
theorem dX19_range_65 : decode cX19_range 65 = .ok (.imul, 1) := dk_104 (dk_at dksX19_range_2 20 rfl rfl)
theorem dX19_range_66 : decode cX19_range 66 = .ok (.iadd, 1) := dk_96 (dk_at dksX19_range_2 21 rfl rfl)
theorem dX19_range_67 : decode cX19_range 67 = .ok (.istore_n 2, 1) := dk_61 (dk_at dksX19_range_2 22 rfl rfl)
theorem dX19_range_68 : decode cX19_range 68 = .ok (.aload_n 0, 1) := dk_42 (dk_at dksX19_range_2 23 rfl rfl)
theorem dX19_range_69 : decode cX19_range 69 = .ok (.bipush 46, 2) := dk_16 46 (dk_at dksX19_range_3 0 rfl rfl)
theorem dX19_range_71 : decode cX19_range 71 = .ok (.bipush 46, 2) := dk_16 46 (dk_at dksX19_range_3 2 rfl rfl)
theorem dX19_range_73 : decode cX19_range 73 = .ok (.invokevirtual 49, 3) := dk_182 0 49 (dk_at dksX19_range_3 4 rfl rfl)
theorem dX19_range_76 : decode cX19_range 76 = .ok (.istore_n 3, 1) := dk_62 (dk_at dksX19_range_3 7 rfl rfl)
theorem dX19_range_77 : decode cX19_range 77 = .ok (.iload_n 2, 1) := dk_28 (dk_at dksX19_range_3 8 rfl rfl)
theorem dX19_range_78 : decode cX19_range 78 = .ok (.bipush 10, 2) := dk_16 10 (dk_at dksX19_range_3 9 rfl rfl)
theorem dX19_range_80 : decode cX19_range 80 = .ok (.aload_n 0, 1) := dk_42 (dk_at dksX19_range_3 11 rfl rfl)
theorem dX19_range_81 : decode cX19_range 81 = .ok (.bipush 48, 2) := dk_16 48 (dk_at dksX19_range_3 12 rfl rfl)
theorem dX19_range_83 : decode cX19_range 83 = .ok (.bipush 57, 2) := dk_16 57 (dk_at dksX19_range_3 14 rfl rfl)
theorem dX19_range_85 : decode cX19_range 85 = .ok (.invokevirtual 49, 3) := dk_182 0 49 (dk_at dksX19_range_3 16 rfl rfl)
theorem dX19_range_88 : decode cX19_range 88 = .ok (.imul, 1) := dk_104 (dk_at dksX19_range_3 19 rfl rfl)
theorem dX19_range_89 : decode cX19_range 89 = .ok (.iadd, 1) := dk_96 (dk_at dksX19_range_3 20 rfl rfl)
theorem dX19_range_90 : decode cX19_range 90 = .ok (.istore_n 2, 1) := dk_61 (dk_at dksX19_range_3 21 rfl rfl)
theorem dX19_range_91 : decode cX19_range 91 = .ok (.aload_n 0, 1) := dk_42 (dk_at dksX19_range_3 22 rfl rfl)
theorem dX19_range_92 : decode cX19_range 92 = .ok (.invokevirtual 29, 3) := dk_182 0 29 (dk_at dksX19_range_4 0 rfl rfl)
theorem dX19_range_95 : decode cX19_range 95 = .ok (.bipush 45, 2) := dk_16 45 (dk_at dksX19_range_4 3 rfl rfl)
theorem dX19_range_97 : decode cX19_range 97 = .ok (.if_icmp .ne 24, 3) := dk_160 0 24 (dk_at dksX19_range_4 5 rfl rfl)
theorem dX19_range_100 : decode cX19_range 100 = .ok (.aload_n 0, 1) := dk_42 (dk_at dksX19_range_4 8 rfl rfl)
theorem dX19_range_101 : decode cX19_range 101 = .ok (.dup, 1) := dk_89 (dk_at dksX19_range_4 9 rfl rfl)
theorem dX19_range_102 : decode cX19_range 102 = .ok (.getfield 15, 3) := dk_180 0 15 (dk_at dksX19_range_4 10 rfl rfl)
theorem dX19_range_105 : decode cX19_range 105 = .ok (.iconst 1, 1) := dk_4 (dk_at dksX19_range_4 13 rfl rfl)
theorem dX19_range_106 : decode cX19_range 106 = .ok (.iadd, 1) := dk_96 (dk_at dksX19_range_4 14 rfl rfl)
theorem dX19_range_107 : decode cX19_range 107 = .ok (.putfield 15, 3) := dk_181 0 15 (dk_at dksX19_range_4 15 rfl rfl)
theorem dX19_range_110 : decode cX19_range 110 = .ok (.iload_n 2, 1) := dk_28 (dk_at dksX19_range_4 18 rfl rfl)
theorem dX19_range_111 : decode cX19_range 111 = .ok (.aload_n 0, 1) := dk_42 (dk_at dksX19_range_4 19 rfl rfl)
theorem dX19_range_112 : decode cX19_range 112 = .ok (.bipush 48, 2) := dk_16 48 (dk_at dksX19_range_4 20 rfl rfl)
theorem dX19_range_114 : decode cX19_range 114 = .ok (.bipush 57, 2) := dk_16 57 (dk_at dksX19_range_4 22 rfl rfl)
theorem dX19_range_116 : decode cX19_range 116 = .ok (.invokevirtual 49, 3) := dk_182 0 49 (dk_at dksX19_range_5 0 rfl rfl)
theorem dX19_range_119 : decode cX19_range 119 = .ok (.iadd, 1) := dk_96 (dk_at dksX19_range_5 3 rfl rfl)
theorem dX19_range_120 : decode cX19_range 120 = .ok (.istore_n 2, 1) := dk_61 (dk_at dksX19_range_5 4 rfl rfl)
theorem dX19_range_121 : decode cX19_range 121 = .ok (.iload_n 2, 1) := dk_28 (dk_at dksX19_range_5 5 rfl rfl)
theorem dX19_range_122 : decode cX19_range 122 = .ok (.ireturn, 1) := dk_172 (dk_at dksX19_range_5 6 rfl rfl)
theorem q128 : (Jvm.Cond.initialized "VersionSolver$Reader") ∈ lw_all := lw_g (lw_at lw_m1 39 rfl) rfl
theorem q418 : (Jvm.Cond.selects "VersionSolver$Reader" ({ cls := "java/lang/Object", name := "getClass", desc := "()Ljava/lang/Class;" } : Jvm.MethodName) ({ cls := "java/lang/Object", name := "getClass", desc := "()Ljava/lang/Class;" } : Jvm.MethodName)) ∈ lw_all := lw_g (lw_at lw_m2 89 rfl) rfl
theorem q1533 : (Jvm.Cond.instantiable "VersionSolver$Reader" (2 : Nat)) ∈ lw_all := lw_g (lw_at lw_m7 4 rfl) rfl
theorem q1535 : (Jvm.Cond.instanceMethod ({ cls := "VersionSolver$Reader", name := "<init>", desc := "(Ljava/lang/CharSequence;)V" } : Jvm.MethodName)) ∈ lw_all := lw_g (lw_at lw_m7 6 rfl) rfl
theorem q1536 : (Jvm.Cond.code ({ cls := "VersionSolver$Reader", name := "<init>", desc := "(Ljava/lang/CharSequence;)V" } : Jvm.MethodName) prog_14_method_1_code (2 : Nat) (Option.none : Option Jvm.ClassFile.FieldType)) ∈ lw_all := lw_g (lw_at lw_m7 7 rfl) rfl
theorem q1537 : (Jvm.Cond.methodLink "VersionSolver$Reader" (3 : Nat) ({ cls := "java/lang/Object", name := "<init>", desc := "()V" } : Jvm.MethodName)) ∈ lw_all := lw_g (lw_at lw_m7 8 rfl) rfl
theorem q1538 : (Jvm.Cond.fieldLink "VersionSolver$Reader" (9 : Nat) "VersionSolver$Reader" "text" "Ljava/lang/CharSequence;") ∈ lw_all := lw_g (lw_at lw_m7 9 rfl) rfl
theorem q1539 : (Jvm.Cond.fieldLink "VersionSolver$Reader" (15 : Nat) "VersionSolver$Reader" "at" "I") ∈ lw_all := lw_g (lw_at lw_m7 10 rfl) rfl
theorem q1540 : (Jvm.Cond.laysFinal "VersionSolver$Reader" "VersionSolver$Reader" "text" "Ljava/lang/CharSequence;") ∈ lw_all := lw_g (lw_at lw_m7 11 rfl) rfl
theorem q1541 : (Jvm.Cond.soleField "VersionSolver$Reader" "text") ∈ lw_all := lw_g (lw_at lw_m7 12 rfl) rfl
theorem q1542 : (Jvm.Cond.lays "VersionSolver$Reader" "VersionSolver$Reader" "at" "I") ∈ lw_all := lw_g (lw_at lw_m7 13 rfl) rfl
theorem q1543 : (Jvm.Cond.soleField "VersionSolver$Reader" "at") ∈ lw_all := lw_g (lw_at lw_m7 14 rfl) rfl
theorem q1544 : (Jvm.Cond.superclass "VersionSolver$Reader" "java/lang/Object") ∈ lw_all := lw_g (lw_at lw_m7 15 rfl) rfl
theorem q1546 : (Jvm.Cond.instanceMethod ({ cls := "VersionSolver$Reader", name := "items", desc := "()Ljava/util/ArrayList;" } : Jvm.MethodName)) ∈ lw_all := lw_g (lw_at lw_m7 17 rfl) rfl
theorem q1547 : (Jvm.Cond.selects "VersionSolver$Reader" ({ cls := "VersionSolver$Reader", name := "items", desc := "()Ljava/util/ArrayList;" } : Jvm.MethodName) ({ cls := "VersionSolver$Reader", name := "items", desc := "()Ljava/util/ArrayList;" } : Jvm.MethodName)) ∈ lw_all := lw_g (lw_at lw_m7 18 rfl) rfl
theorem q1548 : (Jvm.Cond.code ({ cls := "VersionSolver$Reader", name := "items", desc := "()Ljava/util/ArrayList;" } : Jvm.MethodName) prog_14_method_6_code (3 : Nat) (Option.some (Jvm.ClassFile.FieldType.object "java/util/ArrayList"))) ∈ lw_all := lw_g (lw_at lw_m7 19 rfl) rfl
theorem q1549 : (Jvm.Cond.classLink "VersionSolver$Reader" (61 : Nat) "java/util/ArrayList") ∈ lw_all := lw_g (lw_at lw_m7 20 rfl) rfl
theorem q1550 : (Jvm.Cond.methodLink "VersionSolver$Reader" (63 : Nat) ({ cls := "java/util/ArrayList", name := "<init>", desc := "()V" } : Jvm.MethodName)) ∈ lw_all := lw_g (lw_at lw_m7 21 rfl) rfl
theorem q1551 : (Jvm.Cond.methodLink "VersionSolver$Reader" (64 : Nat) ({ cls := "VersionSolver$Reader", name := "item", desc := "()LVersionSolver$Item;" } : Jvm.MethodName)) ∈ lw_all := lw_g (lw_at lw_m7 22 rfl) rfl
theorem q1552 : (Jvm.Cond.privateMethod ({ cls := "VersionSolver$Reader", name := "item", desc := "()LVersionSolver$Item;" } : Jvm.MethodName)) ∈ lw_tbl := lw_at lw_m7 23 rfl
theorem q1553 : (Jvm.Cond.instanceMethod ({ cls := "VersionSolver$Reader", name := "item", desc := "()LVersionSolver$Item;" } : Jvm.MethodName)) ∈ lw_all := lw_g (lw_at lw_m7 24 rfl) rfl
theorem q1554 : (Jvm.Cond.code ({ cls := "VersionSolver$Reader", name := "item", desc := "()LVersionSolver$Item;" } : Jvm.MethodName) prog_14_method_5_code (5 : Nat) (Option.some (Jvm.ClassFile.FieldType.object "VersionSolver$Item"))) ∈ lw_all := lw_g (lw_at lw_m7 25 rfl) rfl
theorem q1555 : (Jvm.Cond.methodLink "VersionSolver$Reader" (29 : Nat) ({ cls := "VersionSolver$Reader", name := "here", desc := "()I" } : Jvm.MethodName)) ∈ lw_all := lw_g (lw_at lw_m7 26 rfl) rfl
theorem q1556 : (Jvm.Cond.privateMethod ({ cls := "VersionSolver$Reader", name := "here", desc := "()I" } : Jvm.MethodName)) ∈ lw_tbl := lw_at lw_m7 27 rfl
theorem q1557 : (Jvm.Cond.instanceMethod ({ cls := "VersionSolver$Reader", name := "here", desc := "()I" } : Jvm.MethodName)) ∈ lw_all := lw_g (lw_at lw_m7 28 rfl) rfl
theorem q1558 : (Jvm.Cond.code ({ cls := "VersionSolver$Reader", name := "here", desc := "()I" } : Jvm.MethodName) prog_14_method_2_code (1 : Nat) (Option.some Jvm.ClassFile.FieldType.int)) ∈ lw_all := lw_g (lw_at lw_m7 29 rfl) rfl
theorem q1559 : (Jvm.Cond.interfaceEntry "VersionSolver$Reader" (19 : Nat)) ∈ lw_tbl := lw_at lw_m7 30 rfl
theorem q1560 : (Jvm.Cond.methodLink "VersionSolver$Reader" (19 : Nat) ({ cls := "java/lang/CharSequence", name := "length", desc := "()I" } : Jvm.MethodName)) ∈ lw_all := lw_g (lw_at lw_m7 31 rfl) rfl
theorem q1578 : (Jvm.Cond.interfaceEntry "VersionSolver$Reader" (25 : Nat)) ∈ lw_tbl := lw_at lw_m7 49 rfl
theorem q1579 : (Jvm.Cond.methodLink "VersionSolver$Reader" (25 : Nat) ({ cls := "java/lang/CharSequence", name := "charAt", desc := "(I)C" } : Jvm.MethodName)) ∈ lw_all := lw_g (lw_at lw_m7 50 rfl) rfl
theorem q1612 : (Jvm.Cond.methodLink "VersionSolver$Reader" (49 : Nat) ({ cls := "VersionSolver$Reader", name := "takes", desc := "(II)I" } : Jvm.MethodName)) ∈ lw_all := lw_g (lw_at lw_m7 83 rfl) rfl
theorem q1613 : (Jvm.Cond.privateMethod ({ cls := "VersionSolver$Reader", name := "takes", desc := "(II)I" } : Jvm.MethodName)) ∈ lw_tbl := lw_at lw_m7 84 rfl
theorem q1614 : (Jvm.Cond.instanceMethod ({ cls := "VersionSolver$Reader", name := "takes", desc := "(II)I" } : Jvm.MethodName)) ∈ lw_all := lw_g (lw_at lw_m7 85 rfl) rfl
theorem q1615 : (Jvm.Cond.code ({ cls := "VersionSolver$Reader", name := "takes", desc := "(II)I" } : Jvm.MethodName) prog_14_method_3_code (3 : Nat) (Option.some Jvm.ClassFile.FieldType.int)) ∈ lw_all := lw_g (lw_at lw_m7 86 rfl) rfl
theorem q1616 : (Jvm.Cond.methodLinkNest "VersionSolver$Reader" (32 : Nat) ({ cls := "VersionSolver", name := "isIn", desc := "(III)Z" } : Jvm.MethodName) "VersionSolver") ∈ lw_tbl := lw_at lw_m7 87 rfl
theorem q1617 : (Jvm.Cond.classLink "VersionSolver$Reader" (36 : Nat) "VersionSolver$Wrong") ∈ lw_all := lw_g (lw_at lw_m7 88 rfl) rfl
theorem q1655 : (Jvm.Cond.methodLink "VersionSolver$Reader" (38 : Nat) ({ cls := "VersionSolver$Wrong", name := "<init>", desc := "(I)V" } : Jvm.MethodName)) ∈ lw_all := lw_g (lw_at lw_m7 126 rfl) rfl
theorem q1681 : (Jvm.Cond.classLink "VersionSolver$Reader" (53 : Nat) "VersionSolver$Item") ∈ lw_all := lw_g (lw_at lw_m7 152 rfl) rfl
theorem q1683 : (Jvm.Cond.methodLink "VersionSolver$Reader" (55 : Nat) ({ cls := "VersionSolver$Reader", name := "range", desc := "()I" } : Jvm.MethodName)) ∈ lw_all := lw_g (lw_at lw_m7 154 rfl) rfl
theorem q1684 : (Jvm.Cond.privateMethod ({ cls := "VersionSolver$Reader", name := "range", desc := "()I" } : Jvm.MethodName)) ∈ lw_tbl := lw_at lw_m7 155 rfl
theorem q1685 : (Jvm.Cond.instanceMethod ({ cls := "VersionSolver$Reader", name := "range", desc := "()I" } : Jvm.MethodName)) ∈ lw_all := lw_g (lw_at lw_m7 156 rfl) rfl
theorem q1686 : (Jvm.Cond.code ({ cls := "VersionSolver$Reader", name := "range", desc := "()I" } : Jvm.MethodName) prog_14_method_4_code (4 : Nat) (Option.some Jvm.ClassFile.FieldType.int)) ∈ lw_all := lw_g (lw_at lw_m7 157 rfl) rfl
theorem q1687 : (Jvm.Cond.stringRef "VersionSolver$Reader" (41 : Nat) "*=<+^~") ∈ lw_tbl := lw_at lw_m7 158 rfl
theorem q1688 : (Jvm.Cond.methodLink "VersionSolver$Reader" (43 : Nat) ({ cls := "java/lang/String", name := "indexOf", desc := "(I)I" } : Jvm.MethodName)) ∈ lw_all := lw_g (lw_at lw_m7 159 rfl) rfl
theorem q1743 : (Jvm.Cond.methodLink "VersionSolver$Reader" (58 : Nat) ({ cls := "VersionSolver$Item", name := "<init>", desc := "([I)V" } : Jvm.MethodName)) ∈ lw_all := lw_g (lw_at lw_m7 214 rfl) rfl
theorem q1768 : (Jvm.Cond.methodLink "VersionSolver$Reader" (68 : Nat) ({ cls := "java/util/ArrayList", name := "add", desc := "(Ljava/lang/Object;)Z" } : Jvm.MethodName)) ∈ lw_all := lw_g (lw_at lw_m7 239 rfl) rfl
theorem q2522 : (Jvm.Cond.castable "VersionSolver$Reader" "java/lang/Object") ∈ lw_tbl := lw_at lw_m11 33 rfl
theorem in_X19 : ∀ w ∈ wsX190, w ∈ lw_all := lw_in wsX190 [1540, 1542] (by decide +kernel) (by decide +kernel)
/-! VersionSolver$Wrong -/
set_option maxRecDepth 100000
def RX20 : String := "VersionSolver$Wrong"
def TX20 : u_T := fun k => match k with
  | 0 => ("java/lang/Throwable", "cause", "Ljava/lang/Throwable;", false)
  | 1 => ("java/lang/Throwable", "stackTrace", "[Ljava/lang/StackTraceElement;", false)
  | 2 => ("java/lang/Throwable", "suppressedExceptions", "Ljava/util/List;", false)
  | 3 => ("java/lang/Throwable", "detailMessage", "Ljava/lang/String;", false)
  | 4 => ("java/lang/Throwable", "backtrace", "Ljava/lang/Object;", false)
  | 5 => ("java/lang/Throwable", "depth", "I", false)
  | _ => ("VersionSolver$Wrong", "position", "I", true)
def tyX20 : Nat → FieldType := fun k => match k with
  | 0 => .object "java/lang/Throwable"
  | 1 => .array (.object "java/lang/StackTraceElement")
  | 2 => .object "java/util/List"
  | 3 => .object "java/lang/String"
  | 4 => .object "java/lang/Object"
  | 5 => .int
  | _ => .int
abbrev wsX200 : List Cond := u_ws RX20 TX20 7
theorem nmX20 : ∀ a, a < 7 → ∀ b, b < 7 → a ≠ b → (TX20 a).2.1 ≠ (TX20 b).2.1 := by decide +kernel
theorem tyX20_ok : ∀ k, k < 7 → parseFieldDescriptor (TX20 k).2.2.1 = some (tyX20 k) := by decide +kernel
abbrev cX20_init : ByteArray := prog_22_method_1_code
def yX20_init : MethodName := ⟨RX20, "<init>", "(I)V"⟩
def dkwX20_init_0 : List UInt8 := [42, 1, 1, 3, 3, 183, 0, 1, 42, 27, 181, 0, 7, 177]
abbrev dktX20_init_0 : List UInt8 := dkwX20_init_0 ++ []
theorem dksX20_init_0 : cX20_init.data.toList.drop 0 = dktX20_init_0 := by decide +kernel
theorem dX20_init_0 : decode cX20_init 0 = .ok (.aload_n 0, 1) := dk_42 (dk_at dksX20_init_0 0 rfl rfl)
theorem dX20_init_1 : decode cX20_init 1 = .ok (.aconst_null, 1) := dk_1 (dk_at dksX20_init_0 1 rfl rfl)
theorem dX20_init_2 : decode cX20_init 2 = .ok (.aconst_null, 1) := dk_1 (dk_at dksX20_init_0 2 rfl rfl)
theorem dX20_init_3 : decode cX20_init 3 = .ok (.iconst 0, 1) := dk_3 (dk_at dksX20_init_0 3 rfl rfl)
theorem dX20_init_4 : decode cX20_init 4 = .ok (.iconst 0, 1) := dk_3 (dk_at dksX20_init_0 4 rfl rfl)
theorem dX20_init_5 : decode cX20_init 5 = .ok (.invokespecial 1, 3) := dk_183 0 1 (dk_at dksX20_init_0 5 rfl rfl)
theorem dX20_init_8 : decode cX20_init 8 = .ok (.aload_n 0, 1) := dk_42 (dk_at dksX20_init_0 8 rfl rfl)
theorem dX20_init_9 : decode cX20_init 9 = .ok (.iload_n 1, 1) := dk_27 (dk_at dksX20_init_0 9 rfl rfl)
theorem dX20_init_10 : decode cX20_init 10 = .ok (.putfield 7, 3) := dk_181 0 7 (dk_at dksX20_init_0 10 rfl rfl)
theorem dX20_init_13 : decode cX20_init 13 = .ok (.return_, 1) := dk_177 (dk_at dksX20_init_0 13 rfl rfl)
theorem q131 : (Jvm.Cond.initialized "VersionSolver$Wrong") ∈ lw_all := lw_g (lw_at lw_m1 42 rfl) rfl
theorem q423 : (Jvm.Cond.selects "VersionSolver$Wrong" ({ cls := "java/lang/Object", name := "getClass", desc := "()Ljava/lang/Class;" } : Jvm.MethodName) ({ cls := "java/lang/Object", name := "getClass", desc := "()Ljava/lang/Class;" } : Jvm.MethodName)) ∈ lw_all := lw_g (lw_at lw_m2 94 rfl) rfl
theorem q1618 : (Jvm.Cond.instantiable "VersionSolver$Wrong" (7 : Nat)) ∈ lw_all := lw_g (lw_at lw_m7 89 rfl) rfl
theorem q1619 : (Jvm.Cond.castable "VersionSolver$Wrong" "VersionSolver$Wrong") ∈ lw_tbl := lw_at lw_m7 90 rfl
theorem q1624 : (Jvm.Cond.selects "VersionSolver$Wrong" ({ cls := "java/lang/Throwable", name := "fillInStackTrace", desc := "(I)Ljava/lang/Throwable;" } : Jvm.MethodName) ({ cls := "java/lang/Throwable", name := "fillInStackTrace", desc := "(I)Ljava/lang/Throwable;" } : Jvm.MethodName)) ∈ lw_all := lw_g (lw_at lw_m7 95 rfl) rfl
theorem q1625 : (Jvm.Cond.selects "VersionSolver$Wrong" ({ cls := "java/lang/Throwable", name := "fillInStackTrace", desc := "()Ljava/lang/Throwable;" } : Jvm.MethodName) ({ cls := "java/lang/Throwable", name := "fillInStackTrace", desc := "()Ljava/lang/Throwable;" } : Jvm.MethodName)) ∈ lw_all := lw_g (lw_at lw_m7 96 rfl) rfl
theorem q1626 : (Jvm.Cond.lays "VersionSolver$Wrong" "java/lang/Throwable" "cause" "Ljava/lang/Throwable;") ∈ lw_all := lw_g (lw_at lw_m7 97 rfl) rfl
theorem q1628 : (Jvm.Cond.lays "VersionSolver$Wrong" "java/lang/Throwable" "stackTrace" "[Ljava/lang/StackTraceElement;") ∈ lw_all := lw_g (lw_at lw_m7 99 rfl) rfl
theorem q1630 : (Jvm.Cond.lays "VersionSolver$Wrong" "java/lang/Throwable" "suppressedExceptions" "Ljava/util/List;") ∈ lw_all := lw_g (lw_at lw_m7 101 rfl) rfl
theorem q1632 : (Jvm.Cond.lays "VersionSolver$Wrong" "java/lang/Throwable" "detailMessage" "Ljava/lang/String;") ∈ lw_all := lw_g (lw_at lw_m7 103 rfl) rfl
theorem q1634 : (Jvm.Cond.lays "VersionSolver$Wrong" "java/lang/Throwable" "backtrace" "Ljava/lang/Object;") ∈ lw_all := lw_g (lw_at lw_m7 105 rfl) rfl
theorem q1656 : (Jvm.Cond.instanceMethod ({ cls := "VersionSolver$Wrong", name := "<init>", desc := "(I)V" } : Jvm.MethodName)) ∈ lw_all := lw_g (lw_at lw_m7 127 rfl) rfl
theorem q1657 : (Jvm.Cond.code ({ cls := "VersionSolver$Wrong", name := "<init>", desc := "(I)V" } : Jvm.MethodName) prog_22_method_1_code (2 : Nat) (Option.none : Option Jvm.ClassFile.FieldType)) ∈ lw_all := lw_g (lw_at lw_m7 128 rfl) rfl
theorem q1658 : (Jvm.Cond.methodLink "VersionSolver$Wrong" (1 : Nat) ({ cls := "java/lang/Exception", name := "<init>", desc := "(Ljava/lang/String;Ljava/lang/Throwable;ZZ)V" } : Jvm.MethodName)) ∈ lw_all := lw_g (lw_at lw_m7 129 rfl) rfl
theorem q1664 : (Jvm.Cond.fieldLink "VersionSolver$Wrong" (7 : Nat) "VersionSolver$Wrong" "position" "I") ∈ lw_all := lw_g (lw_at lw_m7 135 rfl) rfl
theorem q1671 : (Jvm.Cond.laysFinal "VersionSolver$Wrong" "VersionSolver$Wrong" "position" "I") ∈ lw_all := lw_g (lw_at lw_m7 142 rfl) rfl
theorem q1672 : (Jvm.Cond.soleField "VersionSolver$Wrong" "position") ∈ lw_all := lw_g (lw_at lw_m7 143 rfl) rfl
theorem q1677 : (Jvm.Cond.lays "VersionSolver$Wrong" "java/lang/Throwable" "depth" "I") ∈ lw_all := lw_g (lw_at lw_m7 148 rfl) rfl
theorem q1680 : (Jvm.Cond.superclass "VersionSolver$Wrong" "java/lang/Exception") ∈ lw_all := lw_g (lw_at lw_m7 151 rfl) rfl
theorem q2523 : (Jvm.Cond.castable "VersionSolver$Wrong" "java/lang/Object") ∈ lw_tbl := lw_at lw_m11 34 rfl
theorem in_X20 : ∀ w ∈ wsX200, w ∈ lw_all := lw_in wsX200 [1626, 1628, 1630, 1632, 1634, 1677, 1671] (by decide +kernel) (by decide +kernel)
/-! VersionSolver$Item -/
set_option maxRecDepth 100000
def RX21 : String := "VersionSolver$Item"
def TX21 : u_T := fun k => match k with
  | 0 => ("VersionSolver$Item", "kind", "I", true)
  | 1 => ("VersionSolver$Item", "pack", "I", true)
  | 2 => ("VersionSolver$Item", "version", "I", true)
  | 3 => ("VersionSolver$Item", "other", "I", true)
  | _ => ("VersionSolver$Item", "range", "I", true)
def tyX21 : Nat → FieldType := fun k => match k with
  | 0 => .int
  | 1 => .int
  | 2 => .int
  | 3 => .int
  | _ => .int
abbrev wsX210 : List Cond := u_ws RX21 TX21 5
theorem nmX21 : ∀ a, a < 5 → ∀ b, b < 5 → a ≠ b → (TX21 a).2.1 ≠ (TX21 b).2.1 := by decide +kernel
theorem tyX21_ok : ∀ k, k < 5 → parseFieldDescriptor (TX21 k).2.2.1 = some (tyX21 k) := by decide +kernel
abbrev cX21_init : ByteArray := prog_9_method_1_code
def yX21_init : MethodName := ⟨RX21, "<init>", "([I)V"⟩
def dkwX21_init_1 : List UInt8 := [181, 0, 16, 42, 43, 6, 46, 181, 0, 19, 42, 43, 7, 46, 181, 0, 22, 177]
abbrev dktX21_init_1 : List UInt8 := dkwX21_init_1 ++ []
def dkwX21_init_0 : List UInt8 := [42, 183, 0, 1, 42, 43, 3, 46, 181, 0, 7, 42, 43, 4, 46, 181, 0, 13, 42, 43, 5, 46]
abbrev dktX21_init_0 : List UInt8 := dkwX21_init_0 ++ dktX21_init_1
theorem dksX21_init_0 : cX21_init.data.toList.drop 0 = dktX21_init_0 := by decide +kernel
theorem dksX21_init_1 : cX21_init.data.toList.drop 22 = dktX21_init_1 := dk_seg dksX21_init_0 22 rfl rfl
theorem dX21_init_0 : decode cX21_init 0 = .ok (.aload_n 0, 1) := dk_42 (dk_at dksX21_init_0 0 rfl rfl)
theorem dX21_init_1 : decode cX21_init 1 = .ok (.invokespecial 1, 3) := dk_183 0 1 (dk_at dksX21_init_0 1 rfl rfl)
theorem dX21_init_4 : decode cX21_init 4 = .ok (.aload_n 0, 1) := dk_42 (dk_at dksX21_init_0 4 rfl rfl)
theorem dX21_init_5 : decode cX21_init 5 = .ok (.aload_n 1, 1) := dk_43 (dk_at dksX21_init_0 5 rfl rfl)
theorem dX21_init_6 : decode cX21_init 6 = .ok (.iconst 0, 1) := dk_3 (dk_at dksX21_init_0 6 rfl rfl)
theorem dX21_init_7 : decode cX21_init 7 = .ok (.iaload, 1) := dk_46 (dk_at dksX21_init_0 7 rfl rfl)
theorem dX21_init_8 : decode cX21_init 8 = .ok (.putfield 7, 3) := dk_181 0 7 (dk_at dksX21_init_0 8 rfl rfl)
theorem dX21_init_11 : decode cX21_init 11 = .ok (.aload_n 0, 1) := dk_42 (dk_at dksX21_init_0 11 rfl rfl)
theorem dX21_init_12 : decode cX21_init 12 = .ok (.aload_n 1, 1) := dk_43 (dk_at dksX21_init_0 12 rfl rfl)
theorem dX21_init_13 : decode cX21_init 13 = .ok (.iconst 1, 1) := dk_4 (dk_at dksX21_init_0 13 rfl rfl)
theorem dX21_init_14 : decode cX21_init 14 = .ok (.iaload, 1) := dk_46 (dk_at dksX21_init_0 14 rfl rfl)
theorem dX21_init_15 : decode cX21_init 15 = .ok (.putfield 13, 3) := dk_181 0 13 (dk_at dksX21_init_0 15 rfl rfl)
theorem dX21_init_18 : decode cX21_init 18 = .ok (.aload_n 0, 1) := dk_42 (dk_at dksX21_init_0 18 rfl rfl)
theorem dX21_init_19 : decode cX21_init 19 = .ok (.aload_n 1, 1) := dk_43 (dk_at dksX21_init_0 19 rfl rfl)
theorem dX21_init_20 : decode cX21_init 20 = .ok (.iconst 2, 1) := dk_5 (dk_at dksX21_init_0 20 rfl rfl)
theorem dX21_init_21 : decode cX21_init 21 = .ok (.iaload, 1) := dk_46 (dk_at dksX21_init_0 21 rfl rfl)
theorem dX21_init_22 : decode cX21_init 22 = .ok (.putfield 16, 3) := dk_181 0 16 (dk_at dksX21_init_1 0 rfl rfl)
theorem dX21_init_25 : decode cX21_init 25 = .ok (.aload_n 0, 1) := dk_42 (dk_at dksX21_init_1 3 rfl rfl)
theorem dX21_init_26 : decode cX21_init 26 = .ok (.aload_n 1, 1) := dk_43 (dk_at dksX21_init_1 4 rfl rfl)
theorem dX21_init_27 : decode cX21_init 27 = .ok (.iconst 3, 1) := dk_6 (dk_at dksX21_init_1 5 rfl rfl)
theorem dX21_init_28 : decode cX21_init 28 = .ok (.iaload, 1) := dk_46 (dk_at dksX21_init_1 6 rfl rfl)
theorem dX21_init_29 : decode cX21_init 29 = .ok (.putfield 19, 3) := dk_181 0 19 (dk_at dksX21_init_1 7 rfl rfl)
theorem dX21_init_32 : decode cX21_init 32 = .ok (.aload_n 0, 1) := dk_42 (dk_at dksX21_init_1 10 rfl rfl)
theorem dX21_init_33 : decode cX21_init 33 = .ok (.aload_n 1, 1) := dk_43 (dk_at dksX21_init_1 11 rfl rfl)
theorem dX21_init_34 : decode cX21_init 34 = .ok (.iconst 4, 1) := dk_7 (dk_at dksX21_init_1 12 rfl rfl)
theorem dX21_init_35 : decode cX21_init 35 = .ok (.iaload, 1) := dk_46 (dk_at dksX21_init_1 13 rfl rfl)
theorem dX21_init_36 : decode cX21_init 36 = .ok (.putfield 22, 3) := dk_181 0 22 (dk_at dksX21_init_1 14 rfl rfl)
theorem dX21_init_39 : decode cX21_init 39 = .ok (.return_, 1) := dk_177 (dk_at dksX21_init_1 17 rfl rfl)
theorem q132 : (Jvm.Cond.initialized "VersionSolver$Item") ∈ lw_all := lw_g (lw_at lw_m1 43 rfl) rfl
theorem q413 : (Jvm.Cond.selects "VersionSolver$Item" ({ cls := "java/lang/Object", name := "getClass", desc := "()Ljava/lang/Class;" } : Jvm.MethodName) ({ cls := "java/lang/Object", name := "getClass", desc := "()Ljava/lang/Class;" } : Jvm.MethodName)) ∈ lw_all := lw_g (lw_at lw_m2 84 rfl) rfl
theorem q1682 : (Jvm.Cond.instantiable "VersionSolver$Item" (5 : Nat)) ∈ lw_all := lw_g (lw_at lw_m7 153 rfl) rfl
theorem q1744 : (Jvm.Cond.instanceMethod ({ cls := "VersionSolver$Item", name := "<init>", desc := "([I)V" } : Jvm.MethodName)) ∈ lw_all := lw_g (lw_at lw_m7 215 rfl) rfl
theorem q1745 : (Jvm.Cond.code ({ cls := "VersionSolver$Item", name := "<init>", desc := "([I)V" } : Jvm.MethodName) prog_9_method_1_code (2 : Nat) (Option.none : Option Jvm.ClassFile.FieldType)) ∈ lw_all := lw_g (lw_at lw_m7 216 rfl) rfl
theorem q1746 : (Jvm.Cond.methodLink "VersionSolver$Item" (1 : Nat) ({ cls := "java/lang/Object", name := "<init>", desc := "()V" } : Jvm.MethodName)) ∈ lw_all := lw_g (lw_at lw_m7 217 rfl) rfl
theorem q1747 : (Jvm.Cond.fieldLink "VersionSolver$Item" (7 : Nat) "VersionSolver$Item" "kind" "I") ∈ lw_all := lw_g (lw_at lw_m7 218 rfl) rfl
theorem q1749 : (Jvm.Cond.fieldLink "VersionSolver$Item" (13 : Nat) "VersionSolver$Item" "pack" "I") ∈ lw_all := lw_g (lw_at lw_m7 220 rfl) rfl
theorem q1751 : (Jvm.Cond.fieldLink "VersionSolver$Item" (16 : Nat) "VersionSolver$Item" "version" "I") ∈ lw_all := lw_g (lw_at lw_m7 222 rfl) rfl
theorem q1753 : (Jvm.Cond.fieldLink "VersionSolver$Item" (19 : Nat) "VersionSolver$Item" "other" "I") ∈ lw_all := lw_g (lw_at lw_m7 224 rfl) rfl
theorem q1755 : (Jvm.Cond.fieldLink "VersionSolver$Item" (22 : Nat) "VersionSolver$Item" "range" "I") ∈ lw_all := lw_g (lw_at lw_m7 226 rfl) rfl
theorem q1757 : (Jvm.Cond.laysFinal "VersionSolver$Item" "VersionSolver$Item" "kind" "I") ∈ lw_all := lw_g (lw_at lw_m7 228 rfl) rfl
theorem q1758 : (Jvm.Cond.soleField "VersionSolver$Item" "kind") ∈ lw_all := lw_g (lw_at lw_m7 229 rfl) rfl
theorem q1759 : (Jvm.Cond.laysFinal "VersionSolver$Item" "VersionSolver$Item" "pack" "I") ∈ lw_all := lw_g (lw_at lw_m7 230 rfl) rfl
theorem q1760 : (Jvm.Cond.soleField "VersionSolver$Item" "pack") ∈ lw_all := lw_g (lw_at lw_m7 231 rfl) rfl
theorem q1761 : (Jvm.Cond.laysFinal "VersionSolver$Item" "VersionSolver$Item" "version" "I") ∈ lw_all := lw_g (lw_at lw_m7 232 rfl) rfl
theorem q1762 : (Jvm.Cond.soleField "VersionSolver$Item" "version") ∈ lw_all := lw_g (lw_at lw_m7 233 rfl) rfl
theorem q1763 : (Jvm.Cond.laysFinal "VersionSolver$Item" "VersionSolver$Item" "other" "I") ∈ lw_all := lw_g (lw_at lw_m7 234 rfl) rfl
theorem q1764 : (Jvm.Cond.soleField "VersionSolver$Item" "other") ∈ lw_all := lw_g (lw_at lw_m7 235 rfl) rfl
theorem q1765 : (Jvm.Cond.laysFinal "VersionSolver$Item" "VersionSolver$Item" "range" "I") ∈ lw_all := lw_g (lw_at lw_m7 236 rfl) rfl
theorem q1766 : (Jvm.Cond.soleField "VersionSolver$Item" "range") ∈ lw_all := lw_g (lw_at lw_m7 237 rfl) rfl
theorem q1767 : (Jvm.Cond.superclass "VersionSolver$Item" "java/lang/Object") ∈ lw_all := lw_g (lw_at lw_m7 238 rfl) rfl
theorem q2524 : (Jvm.Cond.castable "VersionSolver$Item" "java/lang/Object") ∈ lw_tbl := lw_at lw_m11 35 rfl
theorem in_X21 : ∀ w ∈ wsX210, w ∈ lw_all := lw_in wsX210 [1757, 1759, 1761, 1763, 1765] (by decide +kernel) (by decide +kernel)
/-! VersionSolver$Failed -/
set_option maxRecDepth 100000
def RX22 : String := "VersionSolver$Failed"
def TX22 : u_T := fun k => match k with
  | 0 => ("java/lang/Throwable", "cause", "Ljava/lang/Throwable;", false)
  | 1 => ("java/lang/Throwable", "stackTrace", "[Ljava/lang/StackTraceElement;", false)
  | 2 => ("java/lang/Throwable", "suppressedExceptions", "Ljava/util/List;", false)
  | 3 => ("java/lang/Throwable", "detailMessage", "Ljava/lang/String;", false)
  | 4 => ("java/lang/Throwable", "backtrace", "Ljava/lang/Object;", false)
  | 5 => ("java/lang/Throwable", "depth", "I", false)
  | _ => ("VersionSolver$Failed", "item", "I", true)
def tyX22 : Nat → FieldType := fun k => match k with
  | 0 => .object "java/lang/Throwable"
  | 1 => .array (.object "java/lang/StackTraceElement")
  | 2 => .object "java/util/List"
  | 3 => .object "java/lang/String"
  | 4 => .object "java/lang/Object"
  | 5 => .int
  | _ => .int
abbrev wsX220 : List Cond := u_ws RX22 TX22 7
theorem nmX22 : ∀ a, a < 7 → ∀ b, b < 7 → a ≠ b → (TX22 a).2.1 ≠ (TX22 b).2.1 := by decide +kernel
theorem tyX22_ok : ∀ k, k < 7 → parseFieldDescriptor (TX22 k).2.2.1 = some (tyX22 k) := by decide +kernel
abbrev cX22_init : ByteArray := prog_6_method_1_code
def yX22_init : MethodName := ⟨RX22, "<init>", "(I)V"⟩
def dkwX22_init_0 : List UInt8 := [42, 1, 1, 3, 3, 183, 0, 1, 42, 27, 181, 0, 7, 177]
abbrev dktX22_init_0 : List UInt8 := dkwX22_init_0 ++ []
theorem dksX22_init_0 : cX22_init.data.toList.drop 0 = dktX22_init_0 := by decide +kernel
theorem dX22_init_0 : decode cX22_init 0 = .ok (.aload_n 0, 1) := dk_42 (dk_at dksX22_init_0 0 rfl rfl)
theorem dX22_init_1 : decode cX22_init 1 = .ok (.aconst_null, 1) := dk_1 (dk_at dksX22_init_0 1 rfl rfl)
theorem dX22_init_2 : decode cX22_init 2 = .ok (.aconst_null, 1) := dk_1 (dk_at dksX22_init_0 2 rfl rfl)
theorem dX22_init_3 : decode cX22_init 3 = .ok (.iconst 0, 1) := dk_3 (dk_at dksX22_init_0 3 rfl rfl)
theorem dX22_init_4 : decode cX22_init 4 = .ok (.iconst 0, 1) := dk_3 (dk_at dksX22_init_0 4 rfl rfl)
theorem dX22_init_5 : decode cX22_init 5 = .ok (.invokespecial 1, 3) := dk_183 0 1 (dk_at dksX22_init_0 5 rfl rfl)
theorem dX22_init_8 : decode cX22_init 8 = .ok (.aload_n 0, 1) := dk_42 (dk_at dksX22_init_0 8 rfl rfl)
theorem dX22_init_9 : decode cX22_init 9 = .ok (.iload_n 1, 1) := dk_27 (dk_at dksX22_init_0 9 rfl rfl)
theorem dX22_init_10 : decode cX22_init 10 = .ok (.putfield 7, 3) := dk_181 0 7 (dk_at dksX22_init_0 10 rfl rfl)
theorem dX22_init_13 : decode cX22_init 13 = .ok (.return_, 1) := dk_177 (dk_at dksX22_init_0 13 rfl rfl)
theorem q134 : (Jvm.Cond.initialized "VersionSolver$Failed") ∈ lw_all := lw_g (lw_at lw_m1 45 rfl) rfl
theorem q410 : (Jvm.Cond.selects "VersionSolver$Failed" ({ cls := "java/lang/Object", name := "getClass", desc := "()Ljava/lang/Class;" } : Jvm.MethodName) ({ cls := "java/lang/Object", name := "getClass", desc := "()Ljava/lang/Class;" } : Jvm.MethodName)) ∈ lw_all := lw_g (lw_at lw_m2 81 rfl) rfl
theorem q1648 : (Jvm.Cond.selects "VersionSolver$Failed" ({ cls := "java/lang/Throwable", name := "fillInStackTrace", desc := "()Ljava/lang/Throwable;" } : Jvm.MethodName) ({ cls := "java/lang/Throwable", name := "fillInStackTrace", desc := "()Ljava/lang/Throwable;" } : Jvm.MethodName)) ∈ lw_all := lw_g (lw_at lw_m7 119 rfl) rfl
theorem q1774 : (Jvm.Cond.instantiable "VersionSolver$Failed" (7 : Nat)) ∈ lw_all := lw_g (lw_at lw_m8 5 rfl) rfl
theorem q1775 : (Jvm.Cond.castable "VersionSolver$Failed" "VersionSolver$Failed") ∈ lw_tbl := lw_at lw_m8 6 rfl
theorem q1776 : (Jvm.Cond.selects "VersionSolver$Failed" ({ cls := "java/lang/Throwable", name := "fillInStackTrace", desc := "(I)Ljava/lang/Throwable;" } : Jvm.MethodName) ({ cls := "java/lang/Throwable", name := "fillInStackTrace", desc := "(I)Ljava/lang/Throwable;" } : Jvm.MethodName)) ∈ lw_all := lw_g (lw_at lw_m8 7 rfl) rfl
theorem q1777 : (Jvm.Cond.lays "VersionSolver$Failed" "java/lang/Throwable" "cause" "Ljava/lang/Throwable;") ∈ lw_all := lw_g (lw_at lw_m8 8 rfl) rfl
theorem q1778 : (Jvm.Cond.lays "VersionSolver$Failed" "java/lang/Throwable" "stackTrace" "[Ljava/lang/StackTraceElement;") ∈ lw_all := lw_g (lw_at lw_m8 9 rfl) rfl
theorem q1779 : (Jvm.Cond.lays "VersionSolver$Failed" "java/lang/Throwable" "suppressedExceptions" "Ljava/util/List;") ∈ lw_all := lw_g (lw_at lw_m8 10 rfl) rfl
theorem q1780 : (Jvm.Cond.lays "VersionSolver$Failed" "java/lang/Throwable" "detailMessage" "Ljava/lang/String;") ∈ lw_all := lw_g (lw_at lw_m8 11 rfl) rfl
theorem q1781 : (Jvm.Cond.lays "VersionSolver$Failed" "java/lang/Throwable" "backtrace" "Ljava/lang/Object;") ∈ lw_all := lw_g (lw_at lw_m8 12 rfl) rfl
theorem q1783 : (Jvm.Cond.instanceMethod ({ cls := "VersionSolver$Failed", name := "<init>", desc := "(I)V" } : Jvm.MethodName)) ∈ lw_all := lw_g (lw_at lw_m8 14 rfl) rfl
theorem q1784 : (Jvm.Cond.code ({ cls := "VersionSolver$Failed", name := "<init>", desc := "(I)V" } : Jvm.MethodName) prog_6_method_1_code (2 : Nat) (Option.none : Option Jvm.ClassFile.FieldType)) ∈ lw_all := lw_g (lw_at lw_m8 15 rfl) rfl
theorem q1785 : (Jvm.Cond.methodLink "VersionSolver$Failed" (1 : Nat) ({ cls := "java/lang/Exception", name := "<init>", desc := "(Ljava/lang/String;Ljava/lang/Throwable;ZZ)V" } : Jvm.MethodName)) ∈ lw_all := lw_g (lw_at lw_m8 16 rfl) rfl
theorem q1786 : (Jvm.Cond.fieldLink "VersionSolver$Failed" (7 : Nat) "VersionSolver$Failed" "item" "I") ∈ lw_all := lw_g (lw_at lw_m8 17 rfl) rfl
theorem q1788 : (Jvm.Cond.laysFinal "VersionSolver$Failed" "VersionSolver$Failed" "item" "I") ∈ lw_all := lw_g (lw_at lw_m8 19 rfl) rfl
theorem q1789 : (Jvm.Cond.soleField "VersionSolver$Failed" "item") ∈ lw_all := lw_g (lw_at lw_m8 20 rfl) rfl
theorem q1790 : (Jvm.Cond.lays "VersionSolver$Failed" "java/lang/Throwable" "depth" "I") ∈ lw_all := lw_g (lw_at lw_m8 21 rfl) rfl
theorem q1791 : (Jvm.Cond.superclass "VersionSolver$Failed" "java/lang/Exception") ∈ lw_all := lw_g (lw_at lw_m8 22 rfl) rfl
theorem q2525 : (Jvm.Cond.castable "VersionSolver$Failed" "java/lang/Object") ∈ lw_tbl := lw_at lw_m11 36 rfl
theorem in_X22 : ∀ w ∈ wsX220, w ∈ lw_all := lw_in wsX220 [1777, 1778, 1779, 1780, 1781, 1790, 1788] (by decide +kernel) (by decide +kernel)
