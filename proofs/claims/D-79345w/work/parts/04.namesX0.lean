/-! VersionSolver -/
set_option maxRecDepth 100000
def RX0 : String := "VersionSolver"
def TX0 : u_T := fun k => match k with
  | 0 => ("VersionSolver", "board", "LVersionSolver$Board;", false)
  | 1 => ("VersionSolver", "past", "Ljava/util/ArrayDeque;", true)
  | 2 => ("VersionSolver", "input", "Ljava/lang/StringBuilder;", true)
  | 3 => ("VersionSolver", "report", "Ljava/lang/String;", false)
  | 4 => ("VersionSolver", "saved", "LVersionSolver$Board;", false)
  | 5 => ("VersionSolver", "errorAt", "I", false)
  | _ => ("VersionSolver", "failedAt", "I", false)
def tyX0 : Nat → FieldType := fun k => match k with
  | 0 => .object "VersionSolver$Board"
  | 1 => .object "java/util/ArrayDeque"
  | 2 => .object "java/lang/StringBuilder"
  | 3 => .object "java/lang/String"
  | 4 => .object "VersionSolver$Board"
  | 5 => .int
  | _ => .int
abbrev wsX00 : List Cond := u_ws RX0 TX0 7
theorem nmX0 : ∀ a, a < 7 → ∀ b, b < 7 → a ≠ b → (TX0 a).2.1 ≠ (TX0 b).2.1 := by decide +kernel
theorem tyX0_ok : ∀ k, k < 7 → parseFieldDescriptor (TX0 k).2.2.1 = some (tyX0 k) := by decide +kernel
abbrev cX0_init : ByteArray := prog_1_method_1_code
def yX0_init : MethodName := ⟨RX0, "<init>", "()V"⟩
def dkwX0_init_0 : List UInt8 := [42, 187, 0, 1, 89, 183, 0, 3, 187, 0, 7, 89, 183, 0, 9, 183, 0, 10, 177]
abbrev dktX0_init_0 : List UInt8 := dkwX0_init_0 ++ []
theorem dksX0_init_0 : cX0_init.data.toList.drop 0 = dktX0_init_0 := by decide +kernel
theorem dX0_init_0 : decode cX0_init 0 = .ok (.aload_n 0, 1) := dk_42 (dk_at dksX0_init_0 0 rfl rfl)
theorem dX0_init_1 : decode cX0_init 1 = .ok (.new 1, 3) := dk_187 0 1 (dk_at dksX0_init_0 1 rfl rfl)
theorem dX0_init_4 : decode cX0_init 4 = .ok (.dup, 1) := dk_89 (dk_at dksX0_init_0 4 rfl rfl)
theorem dX0_init_5 : decode cX0_init 5 = .ok (.invokespecial 3, 3) := dk_183 0 3 (dk_at dksX0_init_0 5 rfl rfl)
theorem dX0_init_8 : decode cX0_init 8 = .ok (.new 7, 3) := dk_187 0 7 (dk_at dksX0_init_0 8 rfl rfl)
theorem dX0_init_11 : decode cX0_init 11 = .ok (.dup, 1) := dk_89 (dk_at dksX0_init_0 11 rfl rfl)
theorem dX0_init_12 : decode cX0_init 12 = .ok (.invokespecial 9, 3) := dk_183 0 9 (dk_at dksX0_init_0 12 rfl rfl)
theorem dX0_init_15 : decode cX0_init 15 = .ok (.invokespecial 10, 3) := dk_183 0 10 (dk_at dksX0_init_0 15 rfl rfl)
theorem dX0_init_18 : decode cX0_init 18 = .ok (.return_, 1) := dk_177 (dk_at dksX0_init_0 18 rfl rfl)
abbrev cX0_init_2 : ByteArray := prog_1_method_2_code
def yX0_init_2 : MethodName := ⟨RX0, "<init>", "(LVersionSolver$Board;Ljava/lang/StringBuilder;)V"⟩
def dkwX0_init_2_1 : List UInt8 := [181, 0, 31, 42, 2, 181, 0, 35, 42, 43, 181, 0, 38, 42, 44, 181, 0, 42, 177]
abbrev dktX0_init_2_1 : List UInt8 := dkwX0_init_2_1 ++ []
def dkwX0_init_2_0 : List UInt8 := [42, 183, 0, 15, 42, 187, 0, 18, 89, 183, 0, 20, 181, 0, 21, 42, 18, 25, 181, 0, 27, 42, 2]
abbrev dktX0_init_2_0 : List UInt8 := dkwX0_init_2_0 ++ dktX0_init_2_1
theorem dksX0_init_2_0 : cX0_init_2.data.toList.drop 0 = dktX0_init_2_0 := by decide +kernel
theorem dksX0_init_2_1 : cX0_init_2.data.toList.drop 23 = dktX0_init_2_1 := dk_seg dksX0_init_2_0 23 rfl rfl
theorem dX0_init_2_0 : decode cX0_init_2 0 = .ok (.aload_n 0, 1) := dk_42 (dk_at dksX0_init_2_0 0 rfl rfl)
theorem dX0_init_2_1 : decode cX0_init_2 1 = .ok (.invokespecial 15, 3) := dk_183 0 15 (dk_at dksX0_init_2_0 1 rfl rfl)
theorem dX0_init_2_4 : decode cX0_init_2 4 = .ok (.aload_n 0, 1) := dk_42 (dk_at dksX0_init_2_0 4 rfl rfl)
theorem dX0_init_2_5 : decode cX0_init_2 5 = .ok (.new 18, 3) := dk_187 0 18 (dk_at dksX0_init_2_0 5 rfl rfl)
theorem dX0_init_2_8 : decode cX0_init_2 8 = .ok (.dup, 1) := dk_89 (dk_at dksX0_init_2_0 8 rfl rfl)
theorem dX0_init_2_9 : decode cX0_init_2 9 = .ok (.invokespecial 20, 3) := dk_183 0 20 (dk_at dksX0_init_2_0 9 rfl rfl)
theorem dX0_init_2_12 : decode cX0_init_2 12 = .ok (.putfield 21, 3) := dk_181 0 21 (dk_at dksX0_init_2_0 12 rfl rfl)
theorem dX0_init_2_15 : decode cX0_init_2 15 = .ok (.aload_n 0, 1) := dk_42 (dk_at dksX0_init_2_0 15 rfl rfl)
theorem dX0_init_2_16 : decode cX0_init_2 16 = .ok (.ldc 25, 2) := dk_18 25 (dk_at dksX0_init_2_0 16 rfl rfl)
theorem dX0_init_2_18 : decode cX0_init_2 18 = .ok (.putfield 27, 3) := dk_181 0 27 (dk_at dksX0_init_2_0 18 rfl rfl)
theorem dX0_init_2_21 : decode cX0_init_2 21 = .ok (.aload_n 0, 1) := dk_42 (dk_at dksX0_init_2_0 21 rfl rfl)
theorem dX0_init_2_22 : decode cX0_init_2 22 = .ok (.iconst (-1), 1) := dk_2 (dk_at dksX0_init_2_0 22 rfl rfl)
theorem dX0_init_2_23 : decode cX0_init_2 23 = .ok (.putfield 31, 3) := dk_181 0 31 (dk_at dksX0_init_2_1 0 rfl rfl)
theorem dX0_init_2_26 : decode cX0_init_2 26 = .ok (.aload_n 0, 1) := dk_42 (dk_at dksX0_init_2_1 3 rfl rfl)
theorem dX0_init_2_27 : decode cX0_init_2 27 = .ok (.iconst (-1), 1) := dk_2 (dk_at dksX0_init_2_1 4 rfl rfl)
theorem dX0_init_2_28 : decode cX0_init_2 28 = .ok (.putfield 35, 3) := dk_181 0 35 (dk_at dksX0_init_2_1 5 rfl rfl)
theorem dX0_init_2_31 : decode cX0_init_2 31 = .ok (.aload_n 0, 1) := dk_42 (dk_at dksX0_init_2_1 8 rfl rfl)
theorem dX0_init_2_32 : decode cX0_init_2 32 = .ok (.aload_n 1, 1) := dk_43 (dk_at dksX0_init_2_1 9 rfl rfl)
theorem dX0_init_2_33 : decode cX0_init_2 33 = .ok (.putfield 38, 3) := dk_181 0 38 (dk_at dksX0_init_2_1 10 rfl rfl)
theorem dX0_init_2_36 : decode cX0_init_2 36 = .ok (.aload_n 0, 1) := dk_42 (dk_at dksX0_init_2_1 13 rfl rfl)
theorem dX0_init_2_37 : decode cX0_init_2 37 = .ok (.aload_n 2, 1) := dk_44 (dk_at dksX0_init_2_1 14 rfl rfl)
theorem dX0_init_2_38 : decode cX0_init_2 38 = .ok (.putfield 42, 3) := dk_181 0 42 (dk_at dksX0_init_2_1 15 rfl rfl)
theorem dX0_init_2_41 : decode cX0_init_2 41 = .ok (.return_, 1) := dk_177 (dk_at dksX0_init_2_1 18 rfl rfl)
abbrev cX0_pack : ByteArray := prog_1_method_21_code
def yX0_pack : MethodName := ⟨RX0, "pack", "()I"⟩
def dkwX0_pack_2 : List UInt8 := [42, 180, 0, 38, 180, 0, 95, 182, 0, 72, 4, 100, 182, 0, 124, 172]
abbrev dktX0_pack_2 : List UInt8 := dkwX0_pack_2 ++ []
def dkwX0_pack_1 : List UInt8 := [182, 0, 115, 76, 42, 180, 0, 38, 180, 0, 95, 187, 0, 110, 89, 183, 0, 119, 182, 0, 120, 87, 42, 43]
abbrev dktX0_pack_1 : List UInt8 := dkwX0_pack_1 ++ dktX0_pack_2
def dkwX0_pack_0 : List UInt8 := [42, 180, 0, 38, 180, 0, 95, 182, 0, 72, 16, 6, 160, 0, 6, 16, 252, 172, 42, 180, 0, 38]
abbrev dktX0_pack_0 : List UInt8 := dkwX0_pack_0 ++ dktX0_pack_1
theorem dksX0_pack_0 : cX0_pack.data.toList.drop 0 = dktX0_pack_0 := by decide +kernel
theorem dksX0_pack_1 : cX0_pack.data.toList.drop 22 = dktX0_pack_1 := dk_seg dksX0_pack_0 22 rfl rfl
theorem dksX0_pack_2 : cX0_pack.data.toList.drop 46 = dktX0_pack_2 := dk_seg dksX0_pack_1 24 rfl rfl
theorem dX0_pack_0 : decode cX0_pack 0 = .ok (.aload_n 0, 1) := dk_42 (dk_at dksX0_pack_0 0 rfl rfl)
theorem dX0_pack_1 : decode cX0_pack 1 = .ok (.getfield 38, 3) := dk_180 0 38 (dk_at dksX0_pack_0 1 rfl rfl)
theorem dX0_pack_4 : decode cX0_pack 4 = .ok (.getfield 95, 3) := dk_180 0 95 (dk_at dksX0_pack_0 4 rfl rfl)
theorem dX0_pack_7 : decode cX0_pack 7 = .ok (.invokevirtual 72, 3) := dk_182 0 72 (dk_at dksX0_pack_0 7 rfl rfl)
theorem dX0_pack_10 : decode cX0_pack 10 = .ok (.bipush 6, 2) := dk_16 6 (dk_at dksX0_pack_0 10 rfl rfl)
theorem dX0_pack_12 : decode cX0_pack 12 = .ok (.if_icmp .ne 6, 3) := dk_160 0 6 (dk_at dksX0_pack_0 12 rfl rfl)
theorem dX0_pack_15 : decode cX0_pack 15 = .ok (.bipush (-4), 2) := dk_16 252 (dk_at dksX0_pack_0 15 rfl rfl)
theorem dX0_pack_17 : decode cX0_pack 17 = .ok (.ireturn, 1) := dk_172 (dk_at dksX0_pack_0 17 rfl rfl)
theorem dX0_pack_18 : decode cX0_pack 18 = .ok (.aload_n 0, 1) := dk_42 (dk_at dksX0_pack_0 18 rfl rfl)
theorem dX0_pack_19 : decode cX0_pack 19 = .ok (.getfield 38, 3) := dk_180 0 38 (dk_at dksX0_pack_0 19 rfl rfl)
theorem dX0_pack_22 : decode cX0_pack 22 = .ok (.invokevirtual 115, 3) := dk_182 0 115 (dk_at dksX0_pack_1 0 rfl rfl)
theorem dX0_pack_25 : decode cX0_pack 25 = .ok (.astore_n 1, 1) := dk_76 (dk_at dksX0_pack_1 3 rfl rfl)
theorem dX0_pack_26 : decode cX0_pack 26 = .ok (.aload_n 0, 1) := dk_42 (dk_at dksX0_pack_1 4 rfl rfl)
theorem dX0_pack_27 : decode cX0_pack 27 = .ok (.getfield 38, 3) := dk_180 0 38 (dk_at dksX0_pack_1 5 rfl rfl)
theorem dX0_pack_30 : decode cX0_pack 30 = .ok (.getfield 95, 3) := dk_180 0 95 (dk_at dksX0_pack_1 8 rfl rfl)
theorem dX0_pack_33 : decode cX0_pack 33 = .ok (.new 110, 3) := dk_187 0 110 (dk_at dksX0_pack_1 11 rfl rfl)
theorem dX0_pack_36 : decode cX0_pack 36 = .ok (.dup, 1) := dk_89 (dk_at dksX0_pack_1 14 rfl rfl)
theorem dX0_pack_37 : decode cX0_pack 37 = .ok (.invokespecial 119, 3) := dk_183 0 119 (dk_at dksX0_pack_1 15 rfl rfl)
theorem dX0_pack_40 : decode cX0_pack 40 = .ok (.invokevirtual 120, 3) := dk_182 0 120 (dk_at dksX0_pack_1 18 rfl rfl)
theorem dX0_pack_43 : decode cX0_pack 43 = .ok (.pop, 1) := dk_87 (dk_at dksX0_pack_1 21 rfl rfl)
theorem dX0_pack_44 : decode cX0_pack 44 = .ok (.aload_n 0, 1) := dk_42 (dk_at dksX0_pack_1 22 rfl rfl)
theorem dX0_pack_45 : decode cX0_pack 45 = .ok (.aload_n 1, 1) := dk_43 (dk_at dksX0_pack_1 23 rfl rfl)
theorem dX0_pack_46 : decode cX0_pack 46 = .ok (.aload_n 0, 1) := dk_42 (dk_at dksX0_pack_2 0 rfl rfl)
theorem dX0_pack_47 : decode cX0_pack 47 = .ok (.getfield 38, 3) := dk_180 0 38 (dk_at dksX0_pack_2 1 rfl rfl)
theorem dX0_pack_50 : decode cX0_pack 50 = .ok (.getfield 95, 3) := dk_180 0 95 (dk_at dksX0_pack_2 4 rfl rfl)
theorem dX0_pack_53 : decode cX0_pack 53 = .ok (.invokevirtual 72, 3) := dk_182 0 72 (dk_at dksX0_pack_2 7 rfl rfl)
theorem dX0_pack_56 : decode cX0_pack 56 = .ok (.iconst 1, 1) := dk_4 (dk_at dksX0_pack_2 10 rfl rfl)
theorem dX0_pack_57 : decode cX0_pack 57 = .ok (.isub, 1) := dk_100 (dk_at dksX0_pack_2 11 rfl rfl)
theorem dX0_pack_58 : decode cX0_pack 58 = .ok (.invokevirtual 124, 3) := dk_182 0 124 (dk_at dksX0_pack_2 12 rfl rfl)
theorem dX0_pack_61 : decode cX0_pack 61 = .ok (.ireturn, 1) := dk_172 (dk_at dksX0_pack_2 15 rfl rfl)
abbrev cX0_changed : ByteArray := prog_1_method_14_code
def yX0_changed : MethodName := ⟨RX0, "changed", "(LVersionSolver$Board;I)I"⟩
def dkwX0_changed_1 : List UInt8 := [182, 0, 91, 87, 28, 172]
abbrev dktX0_changed_1 : List UInt8 := dkwX0_changed_1 ++ []
def dkwX0_changed_0 : List UInt8 := [42, 180, 0, 21, 43, 182, 0, 86, 42, 180, 0, 21, 182, 0, 90, 16, 8, 164, 0, 11, 42, 180, 0, 21]
abbrev dktX0_changed_0 : List UInt8 := dkwX0_changed_0 ++ dktX0_changed_1
theorem dksX0_changed_0 : cX0_changed.data.toList.drop 0 = dktX0_changed_0 := by decide +kernel
theorem dksX0_changed_1 : cX0_changed.data.toList.drop 24 = dktX0_changed_1 := dk_seg dksX0_changed_0 24 rfl rfl
theorem dX0_changed_0 : decode cX0_changed 0 = .ok (.aload_n 0, 1) := dk_42 (dk_at dksX0_changed_0 0 rfl rfl)
theorem dX0_changed_1 : decode cX0_changed 1 = .ok (.getfield 21, 3) := dk_180 0 21 (dk_at dksX0_changed_0 1 rfl rfl)
theorem dX0_changed_4 : decode cX0_changed 4 = .ok (.aload_n 1, 1) := dk_43 (dk_at dksX0_changed_0 4 rfl rfl)
theorem dX0_changed_5 : decode cX0_changed 5 = .ok (.invokevirtual 86, 3) := dk_182 0 86 (dk_at dksX0_changed_0 5 rfl rfl)
theorem dX0_changed_8 : decode cX0_changed 8 = .ok (.aload_n 0, 1) := dk_42 (dk_at dksX0_changed_0 8 rfl rfl)
theorem dX0_changed_9 : decode cX0_changed 9 = .ok (.getfield 21, 3) := dk_180 0 21 (dk_at dksX0_changed_0 9 rfl rfl)
theorem dX0_changed_12 : decode cX0_changed 12 = .ok (.invokevirtual 90, 3) := dk_182 0 90 (dk_at dksX0_changed_0 12 rfl rfl)
theorem dX0_changed_15 : decode cX0_changed 15 = .ok (.bipush 8, 2) := dk_16 8 (dk_at dksX0_changed_0 15 rfl rfl)
theorem dX0_changed_17 : decode cX0_changed 17 = .ok (.if_icmp .le 11, 3) := dk_164 0 11 (dk_at dksX0_changed_0 17 rfl rfl)
theorem dX0_changed_20 : decode cX0_changed 20 = .ok (.aload_n 0, 1) := dk_42 (dk_at dksX0_changed_0 20 rfl rfl)
theorem dX0_changed_21 : decode cX0_changed 21 = .ok (.getfield 21, 3) := dk_180 0 21 (dk_at dksX0_changed_0 21 rfl rfl)
theorem dX0_changed_24 : decode cX0_changed 24 = .ok (.invokevirtual 91, 3) := dk_182 0 91 (dk_at dksX0_changed_1 0 rfl rfl)
theorem dX0_changed_27 : decode cX0_changed 27 = .ok (.pop, 1) := dk_87 (dk_at dksX0_changed_1 3 rfl rfl)
theorem dX0_changed_28 : decode cX0_changed 28 = .ok (.iload_n 2, 1) := dk_28 (dk_at dksX0_changed_1 4 rfl rfl)
theorem dX0_changed_29 : decode cX0_changed 29 = .ok (.ireturn, 1) := dk_172 (dk_at dksX0_changed_1 5 rfl rfl)
abbrev cX0_version : ByteArray := prog_1_method_22_code
def yX0_version : MethodName := ⟨RX0, "version", "(IIII)I"⟩
def dkwX0_version_7 : List UInt8 := [182, 0, 120, 87, 42, 25, 8, 25, 6, 180, 0, 112, 182, 0, 72, 4, 100, 182, 0, 124, 172]
abbrev dktX0_version_7 : List UInt8 := dkwX0_version_7 ++ []
def dkwX0_version_6 : List UInt8 := [153, 0, 6, 21, 5, 172, 42, 180, 0, 38, 182, 0, 115, 58, 8, 25, 6, 180, 0, 112, 25, 7]
abbrev dktX0_version_6 : List UInt8 := dkwX0_version_6 ++ dktX0_version_7
def dkwX0_version_5 : List UInt8 := [182, 0, 72, 8, 162, 0, 7, 4, 167, 0, 4, 3, 184, 0, 152, 79, 184, 0, 139, 54, 5, 21, 5]
abbrev dktX0_version_5 : List UInt8 := dkwX0_version_5 ++ dktX0_version_6
def dkwX0_version_4 : List UInt8 := [182, 0, 146, 154, 0, 7, 4, 167, 0, 4, 3, 184, 0, 149, 79, 89, 4, 25, 6, 180, 0, 112]
abbrev dktX0_version_4 : List UInt8 := dkwX0_version_4 ++ dktX0_version_5
def dkwX0_version_3 : List UInt8 := [187, 0, 46, 89, 28, 29, 21, 4, 183, 0, 143, 58, 7, 5, 188, 10, 89, 3, 25, 6, 25, 7]
abbrev dktX0_version_3 : List UInt8 := dkwX0_version_3 ++ dktX0_version_4
def dkwX0_version_2 : List UInt8 := [153, 0, 6, 21, 5, 172, 42, 180, 0, 38, 180, 0, 95, 27, 182, 0, 106, 192, 0, 110, 58, 6]
abbrev dktX0_version_2 : List UInt8 := dkwX0_version_2 ++ dktX0_version_3
def dkwX0_version_1 : List UInt8 := [89, 4, 29, 79, 89, 5, 21, 4, 79, 184, 0, 132, 184, 0, 136, 79, 184, 0, 139, 54, 5, 21, 5]
abbrev dktX0_version_1 : List UInt8 := dkwX0_version_1 ++ dktX0_version_2
def dkwX0_version_0 : List UInt8 := [5, 188, 10, 89, 3, 42, 42, 27, 182, 0, 102, 182, 0, 128, 79, 89, 4, 6, 188, 10, 89, 3, 28, 79]
abbrev dktX0_version_0 : List UInt8 := dkwX0_version_0 ++ dktX0_version_1
theorem dksX0_version_0 : cX0_version.data.toList.drop 0 = dktX0_version_0 := by decide +kernel
theorem dksX0_version_1 : cX0_version.data.toList.drop 24 = dktX0_version_1 := dk_seg dksX0_version_0 24 rfl rfl
theorem dksX0_version_2 : cX0_version.data.toList.drop 47 = dktX0_version_2 := dk_seg dksX0_version_1 23 rfl rfl
theorem dksX0_version_3 : cX0_version.data.toList.drop 69 = dktX0_version_3 := dk_seg dksX0_version_2 22 rfl rfl
theorem dksX0_version_4 : cX0_version.data.toList.drop 91 = dktX0_version_4 := dk_seg dksX0_version_3 22 rfl rfl
theorem dksX0_version_5 : cX0_version.data.toList.drop 113 = dktX0_version_5 := dk_seg dksX0_version_4 22 rfl rfl
theorem dksX0_version_6 : cX0_version.data.toList.drop 136 = dktX0_version_6 := dk_seg dksX0_version_5 23 rfl rfl
theorem dksX0_version_7 : cX0_version.data.toList.drop 158 = dktX0_version_7 := dk_seg dksX0_version_6 22 rfl rfl
theorem dX0_version_0 : decode cX0_version 0 = .ok (.iconst 2, 1) := dk_5 (dk_at dksX0_version_0 0 rfl rfl)
theorem dX0_version_1 : decode cX0_version 1 = .ok (.newarray .int, 2) := dk_188_10 (dk_at dksX0_version_0 1 rfl rfl)
theorem dX0_version_3 : decode cX0_version 3 = .ok (.dup, 1) := dk_89 (dk_at dksX0_version_0 3 rfl rfl)
theorem dX0_version_4 : decode cX0_version 4 = .ok (.iconst 0, 1) := dk_3 (dk_at dksX0_version_0 4 rfl rfl)
theorem dX0_version_5 : decode cX0_version 5 = .ok (.aload_n 0, 1) := dk_42 (dk_at dksX0_version_0 5 rfl rfl)
theorem dX0_version_6 : decode cX0_version 6 = .ok (.aload_n 0, 1) := dk_42 (dk_at dksX0_version_0 6 rfl rfl)
theorem dX0_version_7 : decode cX0_version 7 = .ok (.iload_n 1, 1) := dk_27 (dk_at dksX0_version_0 7 rfl rfl)
theorem dX0_version_8 : decode cX0_version 8 = .ok (.invokevirtual 102, 3) := dk_182 0 102 (dk_at dksX0_version_0 8 rfl rfl)
theorem dX0_version_11 : decode cX0_version 11 = .ok (.invokevirtual 128, 3) := dk_182 0 128 (dk_at dksX0_version_0 11 rfl rfl)
theorem dX0_version_14 : decode cX0_version 14 = .ok (.iastore, 1) := dk_79 (dk_at dksX0_version_0 14 rfl rfl)
theorem dX0_version_15 : decode cX0_version 15 = .ok (.dup, 1) := dk_89 (dk_at dksX0_version_0 15 rfl rfl)
theorem dX0_version_16 : decode cX0_version 16 = .ok (.iconst 1, 1) := dk_4 (dk_at dksX0_version_0 16 rfl rfl)
theorem dX0_version_17 : decode cX0_version 17 = .ok (.iconst 3, 1) := dk_6 (dk_at dksX0_version_0 17 rfl rfl)
theorem dX0_version_18 : decode cX0_version 18 = .ok (.newarray .int, 2) := dk_188_10 (dk_at dksX0_version_0 18 rfl rfl)
theorem dX0_version_20 : decode cX0_version 20 = .ok (.dup, 1) := dk_89 (dk_at dksX0_version_0 20 rfl rfl)
theorem dX0_version_21 : decode cX0_version 21 = .ok (.iconst 0, 1) := dk_3 (dk_at dksX0_version_0 21 rfl rfl)
theorem dX0_version_22 : decode cX0_version 22 = .ok (.iload_n 2, 1) := dk_28 (dk_at dksX0_version_0 22 rfl rfl)
theorem dX0_version_23 : decode cX0_version 23 = .ok (.iastore, 1) := dk_79 (dk_at dksX0_version_0 23 rfl rfl)
theorem dX0_version_24 : decode cX0_version 24 = .ok (.dup, 1) := dk_89 (dk_at dksX0_version_1 0 rfl rfl)
theorem dX0_version_25 : decode cX0_version 25 = .ok (.iconst 1, 1) := dk_4 (dk_at dksX0_version_1 1 rfl rfl)
theorem dX0_version_26 : decode cX0_version 26 = .ok (.iload_n 3, 1) := dk_29 (dk_at dksX0_version_1 2 rfl rfl)
theorem dX0_version_27 : decode cX0_version 27 = .ok (.iastore, 1) := dk_79 (dk_at dksX0_version_1 3 rfl rfl)
theorem dX0_version_28 : decode cX0_version 28 = .ok (.dup, 1) := dk_89 (dk_at dksX0_version_1 4 rfl rfl)
theorem dX0_version_29 : decode cX0_version 29 = .ok (.iconst 2, 1) := dk_5 (dk_at dksX0_version_1 5 rfl rfl)
theorem dX0_version_30 : decode cX0_version 30 = .ok (.iload 4, 2) := dk_21 4 (dk_at dksX0_version_1 6 rfl rfl)
theorem dX0_version_32 : decode cX0_version 32 = .ok (.iastore, 1) := dk_79 (dk_at dksX0_version_1 8 rfl rfl)
theorem dX0_version_33 : decode cX0_version 33 = .ok (.invokestatic 132, 3) := dk_184 0 132 (dk_at dksX0_version_1 9 rfl rfl)
theorem dX0_version_36 : decode cX0_version 36 = .ok (.invokestatic 136, 3) := dk_184 0 136 (dk_at dksX0_version_1 12 rfl rfl)
theorem dX0_version_39 : decode cX0_version 39 = .ok (.iastore, 1) := dk_79 (dk_at dksX0_version_1 15 rfl rfl)
theorem dX0_version_40 : decode cX0_version 40 = .ok (.invokestatic 139, 3) := dk_184 0 139 (dk_at dksX0_version_1 16 rfl rfl)
theorem dX0_version_43 : decode cX0_version 43 = .ok (.istore 5, 2) := dk_54 5 (dk_at dksX0_version_1 19 rfl rfl)
theorem dX0_version_45 : decode cX0_version 45 = .ok (.iload 5, 2) := dk_21 5 (dk_at dksX0_version_1 21 rfl rfl)
theorem dX0_version_47 : decode cX0_version 47 = .ok (.ifCond .eq 6, 3) := dk_153 0 6 (dk_at dksX0_version_2 0 rfl rfl)
theorem dX0_version_50 : decode cX0_version 50 = .ok (.iload 5, 2) := dk_21 5 (dk_at dksX0_version_2 3 rfl rfl)
theorem dX0_version_52 : decode cX0_version 52 = .ok (.ireturn, 1) := dk_172 (dk_at dksX0_version_2 5 rfl rfl)
theorem dX0_version_53 : decode cX0_version 53 = .ok (.aload_n 0, 1) := dk_42 (dk_at dksX0_version_2 6 rfl rfl)
theorem dX0_version_54 : decode cX0_version 54 = .ok (.getfield 38, 3) := dk_180 0 38 (dk_at dksX0_version_2 7 rfl rfl)
theorem dX0_version_57 : decode cX0_version 57 = .ok (.getfield 95, 3) := dk_180 0 95 (dk_at dksX0_version_2 10 rfl rfl)
theorem dX0_version_60 : decode cX0_version 60 = .ok (.iload_n 1, 1) := dk_27 (dk_at dksX0_version_2 13 rfl rfl)
theorem dX0_version_61 : decode cX0_version 61 = .ok (.invokevirtual 106, 3) := dk_182 0 106 (dk_at dksX0_version_2 14 rfl rfl)
theorem dX0_version_64 : decode cX0_version 64 = .ok (.checkcast 110, 3) := dk_192 0 110 (dk_at dksX0_version_2 17 rfl rfl)
theorem dX0_version_67 : decode cX0_version 67 = .ok (.astore 6, 2) := dk_58 6 (dk_at dksX0_version_2 20 rfl rfl)
theorem dX0_version_69 : decode cX0_version 69 = .ok (.new 46, 3) := dk_187 0 46 (dk_at dksX0_version_3 0 rfl rfl)
theorem dX0_version_72 : decode cX0_version 72 = .ok (.dup, 1) := dk_89 (dk_at dksX0_version_3 3 rfl rfl)
theorem dX0_version_73 : decode cX0_version 73 = .ok (.iload_n 2, 1) := dk_28 (dk_at dksX0_version_3 4 rfl rfl)
theorem dX0_version_74 : decode cX0_version 74 = .ok (.iload_n 3, 1) := dk_29 (dk_at dksX0_version_3 5 rfl rfl)
theorem dX0_version_75 : decode cX0_version 75 = .ok (.iload 4, 2) := dk_21 4 (dk_at dksX0_version_3 6 rfl rfl)
theorem dX0_version_77 : decode cX0_version 77 = .ok (.invokespecial 143, 3) := dk_183 0 143 (dk_at dksX0_version_3 8 rfl rfl)
theorem dX0_version_80 : decode cX0_version 80 = .ok (.astore 7, 2) := dk_58 7 (dk_at dksX0_version_3 11 rfl rfl)
theorem dX0_version_82 : decode cX0_version 82 = .ok (.iconst 2, 1) := dk_5 (dk_at dksX0_version_3 13 rfl rfl)
theorem dX0_version_83 : decode cX0_version 83 = .ok (.newarray .int, 2) := dk_188_10 (dk_at dksX0_version_3 14 rfl rfl)
theorem dX0_version_85 : decode cX0_version 85 = .ok (.dup, 1) := dk_89 (dk_at dksX0_version_3 16 rfl rfl)
theorem dX0_version_86 : decode cX0_version 86 = .ok (.iconst 0, 1) := dk_3 (dk_at dksX0_version_3 17 rfl rfl)
theorem dX0_version_87 : decode cX0_version 87 = .ok (.aload 6, 2) := dk_25 6 (dk_at dksX0_version_3 18 rfl rfl)
theorem dX0_version_89 : decode cX0_version 89 = .ok (.aload 7, 2) := dk_25 7 (dk_at dksX0_version_3 20 rfl rfl)
theorem dX0_version_91 : decode cX0_version 91 = .ok (.invokevirtual 146, 3) := dk_182 0 146 (dk_at dksX0_version_4 0 rfl rfl)
theorem dX0_version_94 : decode cX0_version 94 = .ok (.ifCond .ne 7, 3) := dk_154 0 7 (dk_at dksX0_version_4 3 rfl rfl)
theorem dX0_version_97 : decode cX0_version 97 = .ok (.iconst 1, 1) := dk_4 (dk_at dksX0_version_4 6 rfl rfl)
theorem dX0_version_98 : decode cX0_version 98 = .ok (.goto 4, 3) := dk_167 0 4 (dk_at dksX0_version_4 7 rfl rfl)
theorem dX0_version_101 : decode cX0_version 101 = .ok (.iconst 0, 1) := dk_3 (dk_at dksX0_version_4 10 rfl rfl)
theorem dX0_version_102 : decode cX0_version 102 = .ok (.invokestatic 149, 3) := dk_184 0 149 (dk_at dksX0_version_4 11 rfl rfl)
theorem dX0_version_105 : decode cX0_version 105 = .ok (.iastore, 1) := dk_79 (dk_at dksX0_version_4 14 rfl rfl)
theorem dX0_version_106 : decode cX0_version 106 = .ok (.dup, 1) := dk_89 (dk_at dksX0_version_4 15 rfl rfl)
theorem dX0_version_107 : decode cX0_version 107 = .ok (.iconst 1, 1) := dk_4 (dk_at dksX0_version_4 16 rfl rfl)
theorem dX0_version_108 : decode cX0_version 108 = .ok (.aload 6, 2) := dk_25 6 (dk_at dksX0_version_4 17 rfl rfl)
theorem dX0_version_110 : decode cX0_version 110 = .ok (.getfield 112, 3) := dk_180 0 112 (dk_at dksX0_version_4 19 rfl rfl)
theorem dX0_version_113 : decode cX0_version 113 = .ok (.invokevirtual 72, 3) := dk_182 0 72 (dk_at dksX0_version_5 0 rfl rfl)
theorem dX0_version_116 : decode cX0_version 116 = .ok (.iconst 5, 1) := dk_8 (dk_at dksX0_version_5 3 rfl rfl)
theorem dX0_version_117 : decode cX0_version 117 = .ok (.if_icmp .ge 7, 3) := dk_162 0 7 (dk_at dksX0_version_5 4 rfl rfl)
theorem dX0_version_120 : decode cX0_version 120 = .ok (.iconst 1, 1) := dk_4 (dk_at dksX0_version_5 7 rfl rfl)
theorem dX0_version_121 : decode cX0_version 121 = .ok (.goto 4, 3) := dk_167 0 4 (dk_at dksX0_version_5 8 rfl rfl)
theorem dX0_version_124 : decode cX0_version 124 = .ok (.iconst 0, 1) := dk_3 (dk_at dksX0_version_5 11 rfl rfl)
theorem dX0_version_125 : decode cX0_version 125 = .ok (.invokestatic 152, 3) := dk_184 0 152 (dk_at dksX0_version_5 12 rfl rfl)
theorem dX0_version_128 : decode cX0_version 128 = .ok (.iastore, 1) := dk_79 (dk_at dksX0_version_5 15 rfl rfl)
theorem dX0_version_129 : decode cX0_version 129 = .ok (.invokestatic 139, 3) := dk_184 0 139 (dk_at dksX0_version_5 16 rfl rfl)
theorem dX0_version_132 : decode cX0_version 132 = .ok (.istore 5, 2) := dk_54 5 (dk_at dksX0_version_5 19 rfl rfl)
theorem dX0_version_134 : decode cX0_version 134 = .ok (.iload 5, 2) := dk_21 5 (dk_at dksX0_version_5 21 rfl rfl)
theorem dX0_version_136 : decode cX0_version 136 = .ok (.ifCond .eq 6, 3) := dk_153 0 6 (dk_at dksX0_version_6 0 rfl rfl)
theorem dX0_version_139 : decode cX0_version 139 = .ok (.iload 5, 2) := dk_21 5 (dk_at dksX0_version_6 3 rfl rfl)
theorem dX0_version_141 : decode cX0_version 141 = .ok (.ireturn, 1) := dk_172 (dk_at dksX0_version_6 5 rfl rfl)
theorem dX0_version_142 : decode cX0_version 142 = .ok (.aload_n 0, 1) := dk_42 (dk_at dksX0_version_6 6 rfl rfl)
theorem dX0_version_143 : decode cX0_version 143 = .ok (.getfield 38, 3) := dk_180 0 38 (dk_at dksX0_version_6 7 rfl rfl)
theorem dX0_version_146 : decode cX0_version 146 = .ok (.invokevirtual 115, 3) := dk_182 0 115 (dk_at dksX0_version_6 10 rfl rfl)
theorem dX0_version_149 : decode cX0_version 149 = .ok (.astore 8, 2) := dk_58 8 (dk_at dksX0_version_6 13 rfl rfl)
theorem dX0_version_151 : decode cX0_version 151 = .ok (.aload 6, 2) := dk_25 6 (dk_at dksX0_version_6 15 rfl rfl)
theorem dX0_version_153 : decode cX0_version 153 = .ok (.getfield 112, 3) := dk_180 0 112 (dk_at dksX0_version_6 17 rfl rfl)
theorem dX0_version_156 : decode cX0_version 156 = .ok (.aload 7, 2) := dk_25 7 (dk_at dksX0_version_6 20 rfl rfl)
theorem dX0_version_158 : decode cX0_version 158 = .ok (.invokevirtual 120, 3) := dk_182 0 120 (dk_at dksX0_version_7 0 rfl rfl)
theorem dX0_version_161 : decode cX0_version 161 = .ok (.pop, 1) := dk_87 (dk_at dksX0_version_7 3 rfl rfl)
theorem dX0_version_162 : decode cX0_version 162 = .ok (.aload_n 0, 1) := dk_42 (dk_at dksX0_version_7 4 rfl rfl)
theorem dX0_version_163 : decode cX0_version 163 = .ok (.aload 8, 2) := dk_25 8 (dk_at dksX0_version_7 5 rfl rfl)
theorem dX0_version_165 : decode cX0_version 165 = .ok (.aload 6, 2) := dk_25 6 (dk_at dksX0_version_7 7 rfl rfl)
theorem dX0_version_167 : decode cX0_version 167 = .ok (.getfield 112, 3) := dk_180 0 112 (dk_at dksX0_version_7 9 rfl rfl)
theorem dX0_version_170 : decode cX0_version 170 = .ok (.invokevirtual 72, 3) := dk_182 0 72 (dk_at dksX0_version_7 12 rfl rfl)
theorem dX0_version_173 : decode cX0_version 173 = .ok (.iconst 1, 1) := dk_4 (dk_at dksX0_version_7 15 rfl rfl)
theorem dX0_version_174 : decode cX0_version 174 = .ok (.isub, 1) := dk_100 (dk_at dksX0_version_7 16 rfl rfl)
theorem dX0_version_175 : decode cX0_version 175 = .ok (.invokevirtual 124, 3) := dk_182 0 124 (dk_at dksX0_version_7 17 rfl rfl)
theorem dX0_version_178 : decode cX0_version 178 = .ok (.ireturn, 1) := dk_172 (dk_at dksX0_version_7 20 rfl rfl)
abbrev cX0_isPack : ByteArray := prog_1_method_16_code
def yX0_isPack : MethodName := ⟨RX0, "isPack", "(I)Z"⟩
def dkwX0_isPack_0 : List UInt8 := [27, 3, 42, 180, 0, 38, 180, 0, 95, 182, 0, 72, 4, 100, 184, 0, 98, 172]
abbrev dktX0_isPack_0 : List UInt8 := dkwX0_isPack_0 ++ []
theorem dksX0_isPack_0 : cX0_isPack.data.toList.drop 0 = dktX0_isPack_0 := by decide +kernel
theorem dX0_isPack_0 : decode cX0_isPack 0 = .ok (.iload_n 1, 1) := dk_27 (dk_at dksX0_isPack_0 0 rfl rfl)
theorem dX0_isPack_1 : decode cX0_isPack 1 = .ok (.iconst 0, 1) := dk_3 (dk_at dksX0_isPack_0 1 rfl rfl)
theorem dX0_isPack_2 : decode cX0_isPack 2 = .ok (.aload_n 0, 1) := dk_42 (dk_at dksX0_isPack_0 2 rfl rfl)
theorem dX0_isPack_3 : decode cX0_isPack 3 = .ok (.getfield 38, 3) := dk_180 0 38 (dk_at dksX0_isPack_0 3 rfl rfl)
theorem dX0_isPack_6 : decode cX0_isPack 6 = .ok (.getfield 95, 3) := dk_180 0 95 (dk_at dksX0_isPack_0 6 rfl rfl)
theorem dX0_isPack_9 : decode cX0_isPack 9 = .ok (.invokevirtual 72, 3) := dk_182 0 72 (dk_at dksX0_isPack_0 9 rfl rfl)
theorem dX0_isPack_12 : decode cX0_isPack 12 = .ok (.iconst 1, 1) := dk_4 (dk_at dksX0_isPack_0 12 rfl rfl)
theorem dX0_isPack_13 : decode cX0_isPack 13 = .ok (.isub, 1) := dk_100 (dk_at dksX0_isPack_0 13 rfl rfl)
theorem dX0_isPack_14 : decode cX0_isPack 14 = .ok (.invokestatic 98, 3) := dk_184 0 98 (dk_at dksX0_isPack_0 14 rfl rfl)
theorem dX0_isPack_17 : decode cX0_isPack 17 = .ok (.ireturn, 1) := dk_172 (dk_at dksX0_isPack_0 17 rfl rfl)
abbrev cX0_isIn : ByteArray := prog_1_method_3_code
def yX0_isIn : MethodName := ⟨RX0, "isIn", "(III)Z"⟩
def dkwX0_isIn_0 : List UInt8 := [26, 27, 161, 0, 12, 26, 28, 163, 0, 7, 4, 167, 0, 4, 3, 172]
abbrev dktX0_isIn_0 : List UInt8 := dkwX0_isIn_0 ++ []
theorem dksX0_isIn_0 : cX0_isIn.data.toList.drop 0 = dktX0_isIn_0 := by decide +kernel
theorem dX0_isIn_0 : decode cX0_isIn 0 = .ok (.iload_n 0, 1) := dk_26 (dk_at dksX0_isIn_0 0 rfl rfl)
theorem dX0_isIn_1 : decode cX0_isIn 1 = .ok (.iload_n 1, 1) := dk_27 (dk_at dksX0_isIn_0 1 rfl rfl)
theorem dX0_isIn_2 : decode cX0_isIn 2 = .ok (.if_icmp .lt 12, 3) := dk_161 0 12 (dk_at dksX0_isIn_0 2 rfl rfl)
theorem dX0_isIn_5 : decode cX0_isIn 5 = .ok (.iload_n 0, 1) := dk_26 (dk_at dksX0_isIn_0 5 rfl rfl)
theorem dX0_isIn_6 : decode cX0_isIn 6 = .ok (.iload_n 2, 1) := dk_28 (dk_at dksX0_isIn_0 6 rfl rfl)
theorem dX0_isIn_7 : decode cX0_isIn 7 = .ok (.if_icmp .gt 7, 3) := dk_163 0 7 (dk_at dksX0_isIn_0 7 rfl rfl)
theorem dX0_isIn_10 : decode cX0_isIn 10 = .ok (.iconst 1, 1) := dk_4 (dk_at dksX0_isIn_0 10 rfl rfl)
theorem dX0_isIn_11 : decode cX0_isIn 11 = .ok (.goto 4, 3) := dk_167 0 4 (dk_at dksX0_isIn_0 11 rfl rfl)
theorem dX0_isIn_14 : decode cX0_isIn 14 = .ok (.iconst 0, 1) := dk_3 (dk_at dksX0_isIn_0 14 rfl rfl)
theorem dX0_isIn_15 : decode cX0_isIn 15 = .ok (.ireturn, 1) := dk_172 (dk_at dksX0_isIn_0 15 rfl rfl)
abbrev cX0_nobody : ByteArray := prog_1_method_15_code
def yX0_nobody : MethodName := ⟨RX0, "nobody", "(Z)I"⟩
def dkwX0_nobody_0 : List UInt8 := [27, 153, 0, 7, 3, 167, 0, 4, 2, 172]
abbrev dktX0_nobody_0 : List UInt8 := dkwX0_nobody_0 ++ []
theorem dksX0_nobody_0 : cX0_nobody.data.toList.drop 0 = dktX0_nobody_0 := by decide +kernel
theorem dX0_nobody_0 : decode cX0_nobody 0 = .ok (.iload_n 1, 1) := dk_27 (dk_at dksX0_nobody_0 0 rfl rfl)
theorem dX0_nobody_1 : decode cX0_nobody 1 = .ok (.ifCond .eq 7, 3) := dk_153 0 7 (dk_at dksX0_nobody_0 1 rfl rfl)
theorem dX0_nobody_4 : decode cX0_nobody 4 = .ok (.iconst 0, 1) := dk_3 (dk_at dksX0_nobody_0 4 rfl rfl)
theorem dX0_nobody_5 : decode cX0_nobody 5 = .ok (.goto 4, 3) := dk_167 0 4 (dk_at dksX0_nobody_0 5 rfl rfl)
theorem dX0_nobody_8 : decode cX0_nobody 8 = .ok (.iconst (-1), 1) := dk_2 (dk_at dksX0_nobody_0 8 rfl rfl)
theorem dX0_nobody_9 : decode cX0_nobody 9 = .ok (.ireturn, 1) := dk_172 (dk_at dksX0_nobody_0 9 rfl rfl)
abbrev cX0_areDigits : ByteArray := prog_1_method_20_code
def yX0_areDigits : MethodName := ⟨RX0, "areDigits", "([I)Z"⟩
def dkwX0_areDigits_1 : List UInt8 := [184, 0, 98, 154, 0, 5, 3, 172, 132, 3, 1, 167, 255, 230, 4, 172]
abbrev dktX0_areDigits_1 : List UInt8 := dkwX0_areDigits_1 ++ []
def dkwX0_areDigits_0 : List UInt8 := [42, 76, 43, 190, 61, 3, 62, 29, 28, 162, 0, 27, 43, 29, 46, 54, 4, 21, 4, 3, 16, 9]
abbrev dktX0_areDigits_0 : List UInt8 := dkwX0_areDigits_0 ++ dktX0_areDigits_1
theorem dksX0_areDigits_0 : cX0_areDigits.data.toList.drop 0 = dktX0_areDigits_0 := by decide +kernel
theorem dksX0_areDigits_1 : cX0_areDigits.data.toList.drop 22 = dktX0_areDigits_1 := dk_seg dksX0_areDigits_0 22 rfl rfl
theorem dX0_areDigits_0 : decode cX0_areDigits 0 = .ok (.aload_n 0, 1) := dk_42 (dk_at dksX0_areDigits_0 0 rfl rfl)
theorem dX0_areDigits_1 : decode cX0_areDigits 1 = .ok (.astore_n 1, 1) := dk_76 (dk_at dksX0_areDigits_0 1 rfl rfl)
theorem dX0_areDigits_2 : decode cX0_areDigits 2 = .ok (.aload_n 1, 1) := dk_43 (dk_at dksX0_areDigits_0 2 rfl rfl)
theorem dX0_areDigits_3 : decode cX0_areDigits 3 = .ok (.arraylength, 1) := dk_190 (dk_at dksX0_areDigits_0 3 rfl rfl)
theorem dX0_areDigits_4 : decode cX0_areDigits 4 = .ok (.istore_n 2, 1) := dk_61 (dk_at dksX0_areDigits_0 4 rfl rfl)
theorem dX0_areDigits_5 : decode cX0_areDigits 5 = .ok (.iconst 0, 1) := dk_3 (dk_at dksX0_areDigits_0 5 rfl rfl)
theorem dX0_areDigits_6 : decode cX0_areDigits 6 = .ok (.istore_n 3, 1) := dk_62 (dk_at dksX0_areDigits_0 6 rfl rfl)
theorem dX0_areDigits_7 : decode cX0_areDigits 7 = .ok (.iload_n 3, 1) := dk_29 (dk_at dksX0_areDigits_0 7 rfl rfl)
theorem dX0_areDigits_8 : decode cX0_areDigits 8 = .ok (.iload_n 2, 1) := dk_28 (dk_at dksX0_areDigits_0 8 rfl rfl)
theorem dX0_areDigits_9 : decode cX0_areDigits 9 = .ok (.if_icmp .ge 27, 3) := dk_162 0 27 (dk_at dksX0_areDigits_0 9 rfl rfl)
theorem dX0_areDigits_12 : decode cX0_areDigits 12 = .ok (.aload_n 1, 1) := dk_43 (dk_at dksX0_areDigits_0 12 rfl rfl)
theorem dX0_areDigits_13 : decode cX0_areDigits 13 = .ok (.iload_n 3, 1) := dk_29 (dk_at dksX0_areDigits_0 13 rfl rfl)
theorem dX0_areDigits_14 : decode cX0_areDigits 14 = .ok (.iaload, 1) := dk_46 (dk_at dksX0_areDigits_0 14 rfl rfl)
theorem dX0_areDigits_15 : decode cX0_areDigits 15 = .ok (.istore 4, 2) := dk_54 4 (dk_at dksX0_areDigits_0 15 rfl rfl)
theorem dX0_areDigits_17 : decode cX0_areDigits 17 = .ok (.iload 4, 2) := dk_21 4 (dk_at dksX0_areDigits_0 17 rfl rfl)
theorem dX0_areDigits_19 : decode cX0_areDigits 19 = .ok (.iconst 0, 1) := dk_3 (dk_at dksX0_areDigits_0 19 rfl rfl)
theorem dX0_areDigits_20 : decode cX0_areDigits 20 = .ok (.bipush 9, 2) := dk_16 9 (dk_at dksX0_areDigits_0 20 rfl rfl)
theorem dX0_areDigits_22 : decode cX0_areDigits 22 = .ok (.invokestatic 98, 3) := dk_184 0 98 (dk_at dksX0_areDigits_1 0 rfl rfl)
theorem dX0_areDigits_25 : decode cX0_areDigits 25 = .ok (.ifCond .ne 5, 3) := dk_154 0 5 (dk_at dksX0_areDigits_1 3 rfl rfl)
theorem dX0_areDigits_28 : decode cX0_areDigits 28 = .ok (.iconst 0, 1) := dk_3 (dk_at dksX0_areDigits_1 6 rfl rfl)
theorem dX0_areDigits_29 : decode cX0_areDigits 29 = .ok (.ireturn, 1) := dk_172 (dk_at dksX0_areDigits_1 7 rfl rfl)
theorem dX0_areDigits_30 : decode cX0_areDigits 30 = .ok (.iinc 3 1, 3) := dk_132 3 1 (dk_at dksX0_areDigits_1 8 rfl rfl)
theorem dX0_areDigits_33 : decode cX0_areDigits 33 = .ok (.goto (-26), 3) := dk_167 255 230 (dk_at dksX0_areDigits_1 11 rfl rfl)
theorem dX0_areDigits_36 : decode cX0_areDigits 36 = .ok (.iconst 1, 1) := dk_4 (dk_at dksX0_areDigits_1 14 rfl rfl)
theorem dX0_areDigits_37 : decode cX0_areDigits 37 = .ok (.ireturn, 1) := dk_172 (dk_at dksX0_areDigits_1 15 rfl rfl)
abbrev cX0_bad : ByteArray := prog_1_method_7_code
def yX0_bad : MethodName := ⟨RX0, "bad", "(Z)I"⟩
def dkwX0_bad_0 : List UInt8 := [26, 153, 0, 7, 3, 167, 0, 5, 16, 254, 172]
abbrev dktX0_bad_0 : List UInt8 := dkwX0_bad_0 ++ []
theorem dksX0_bad_0 : cX0_bad.data.toList.drop 0 = dktX0_bad_0 := by decide +kernel
theorem dX0_bad_0 : decode cX0_bad 0 = .ok (.iload_n 0, 1) := dk_26 (dk_at dksX0_bad_0 0 rfl rfl)
theorem dX0_bad_1 : decode cX0_bad 1 = .ok (.ifCond .eq 7, 3) := dk_153 0 7 (dk_at dksX0_bad_0 1 rfl rfl)
theorem dX0_bad_4 : decode cX0_bad 4 = .ok (.iconst 0, 1) := dk_3 (dk_at dksX0_bad_0 4 rfl rfl)
theorem dX0_bad_5 : decode cX0_bad 5 = .ok (.goto 5, 3) := dk_167 0 5 (dk_at dksX0_bad_0 5 rfl rfl)
theorem dX0_bad_8 : decode cX0_bad 8 = .ok (.bipush (-2), 2) := dk_16 254 (dk_at dksX0_bad_0 8 rfl rfl)
theorem dX0_bad_10 : decode cX0_bad 10 = .ok (.ireturn, 1) := dk_172 (dk_at dksX0_bad_0 10 rfl rfl)
abbrev cX0_first : ByteArray := prog_1_method_6_code
def yX0_first : MethodName := ⟨RX0, "first", "([I)I"⟩
def dkwX0_first_1 : List UInt8 := [172, 132, 3, 1, 167, 255, 235, 3, 172]
abbrev dktX0_first_1 : List UInt8 := dkwX0_first_1 ++ []
def dkwX0_first_0 : List UInt8 := [42, 76, 43, 190, 61, 3, 62, 29, 28, 162, 0, 22, 43, 29, 46, 54, 4, 21, 4, 153, 0, 6, 21, 4]
abbrev dktX0_first_0 : List UInt8 := dkwX0_first_0 ++ dktX0_first_1
theorem dksX0_first_0 : cX0_first.data.toList.drop 0 = dktX0_first_0 := by decide +kernel
theorem dksX0_first_1 : cX0_first.data.toList.drop 24 = dktX0_first_1 := dk_seg dksX0_first_0 24 rfl rfl
theorem dX0_first_0 : decode cX0_first 0 = .ok (.aload_n 0, 1) := dk_42 (dk_at dksX0_first_0 0 rfl rfl)
theorem dX0_first_1 : decode cX0_first 1 = .ok (.astore_n 1, 1) := dk_76 (dk_at dksX0_first_0 1 rfl rfl)
theorem dX0_first_2 : decode cX0_first 2 = .ok (.aload_n 1, 1) := dk_43 (dk_at dksX0_first_0 2 rfl rfl)
theorem dX0_first_3 : decode cX0_first 3 = .ok (.arraylength, 1) := dk_190 (dk_at dksX0_first_0 3 rfl rfl)
theorem dX0_first_4 : decode cX0_first 4 = .ok (.istore_n 2, 1) := dk_61 (dk_at dksX0_first_0 4 rfl rfl)
theorem dX0_first_5 : decode cX0_first 5 = .ok (.iconst 0, 1) := dk_3 (dk_at dksX0_first_0 5 rfl rfl)
theorem dX0_first_6 : decode cX0_first 6 = .ok (.istore_n 3, 1) := dk_62 (dk_at dksX0_first_0 6 rfl rfl)
theorem dX0_first_7 : decode cX0_first 7 = .ok (.iload_n 3, 1) := dk_29 (dk_at dksX0_first_0 7 rfl rfl)
theorem dX0_first_8 : decode cX0_first 8 = .ok (.iload_n 2, 1) := dk_28 (dk_at dksX0_first_0 8 rfl rfl)
theorem dX0_first_9 : decode cX0_first 9 = .ok (.if_icmp .ge 22, 3) := dk_162 0 22 (dk_at dksX0_first_0 9 rfl rfl)
theorem dX0_first_12 : decode cX0_first 12 = .ok (.aload_n 1, 1) := dk_43 (dk_at dksX0_first_0 12 rfl rfl)
theorem dX0_first_13 : decode cX0_first 13 = .ok (.iload_n 3, 1) := dk_29 (dk_at dksX0_first_0 13 rfl rfl)
theorem dX0_first_14 : decode cX0_first 14 = .ok (.iaload, 1) := dk_46 (dk_at dksX0_first_0 14 rfl rfl)
theorem dX0_first_15 : decode cX0_first 15 = .ok (.istore 4, 2) := dk_54 4 (dk_at dksX0_first_0 15 rfl rfl)
theorem dX0_first_17 : decode cX0_first 17 = .ok (.iload 4, 2) := dk_21 4 (dk_at dksX0_first_0 17 rfl rfl)
theorem dX0_first_19 : decode cX0_first 19 = .ok (.ifCond .eq 6, 3) := dk_153 0 6 (dk_at dksX0_first_0 19 rfl rfl)
theorem dX0_first_22 : decode cX0_first 22 = .ok (.iload 4, 2) := dk_21 4 (dk_at dksX0_first_0 22 rfl rfl)
theorem dX0_first_24 : decode cX0_first 24 = .ok (.ireturn, 1) := dk_172 (dk_at dksX0_first_1 0 rfl rfl)
theorem dX0_first_25 : decode cX0_first 25 = .ok (.iinc 3 1, 3) := dk_132 3 1 (dk_at dksX0_first_1 1 rfl rfl)
theorem dX0_first_28 : decode cX0_first 28 = .ok (.goto (-21), 3) := dk_167 255 235 (dk_at dksX0_first_1 4 rfl rfl)
theorem dX0_first_31 : decode cX0_first 31 = .ok (.iconst 0, 1) := dk_3 (dk_at dksX0_first_1 7 rfl rfl)
theorem dX0_first_32 : decode cX0_first 32 = .ok (.ireturn, 1) := dk_172 (dk_at dksX0_first_1 8 rfl rfl)
abbrev cX0_state : ByteArray := prog_1_method_9_code
def yX0_state : MethodName := ⟨RX0, "state", "(Z)I"⟩
def dkwX0_state_0 : List UInt8 := [26, 153, 0, 7, 3, 167, 0, 5, 16, 253, 172]
abbrev dktX0_state_0 : List UInt8 := dkwX0_state_0 ++ []
theorem dksX0_state_0 : cX0_state.data.toList.drop 0 = dktX0_state_0 := by decide +kernel
theorem dX0_state_0 : decode cX0_state 0 = .ok (.iload_n 0, 1) := dk_26 (dk_at dksX0_state_0 0 rfl rfl)
theorem dX0_state_1 : decode cX0_state 1 = .ok (.ifCond .eq 7, 3) := dk_153 0 7 (dk_at dksX0_state_0 1 rfl rfl)
theorem dX0_state_4 : decode cX0_state 4 = .ok (.iconst 0, 1) := dk_3 (dk_at dksX0_state_0 4 rfl rfl)
theorem dX0_state_5 : decode cX0_state 5 = .ok (.goto 5, 3) := dk_167 0 5 (dk_at dksX0_state_0 5 rfl rfl)
theorem dX0_state_8 : decode cX0_state 8 = .ok (.bipush (-3), 2) := dk_16 253 (dk_at dksX0_state_0 8 rfl rfl)
theorem dX0_state_10 : decode cX0_state 10 = .ok (.ireturn, 1) := dk_172 (dk_at dksX0_state_0 10 rfl rfl)
abbrev cX0_full : ByteArray := prog_1_method_8_code
def yX0_full : MethodName := ⟨RX0, "full", "(Z)I"⟩
def dkwX0_full_0 : List UInt8 := [26, 153, 0, 7, 3, 167, 0, 5, 16, 252, 172]
abbrev dktX0_full_0 : List UInt8 := dkwX0_full_0 ++ []
theorem dksX0_full_0 : cX0_full.data.toList.drop 0 = dktX0_full_0 := by decide +kernel
theorem dX0_full_0 : decode cX0_full 0 = .ok (.iload_n 0, 1) := dk_26 (dk_at dksX0_full_0 0 rfl rfl)
theorem dX0_full_1 : decode cX0_full 1 = .ok (.ifCond .eq 7, 3) := dk_153 0 7 (dk_at dksX0_full_0 1 rfl rfl)
theorem dX0_full_4 : decode cX0_full 4 = .ok (.iconst 0, 1) := dk_3 (dk_at dksX0_full_0 4 rfl rfl)
theorem dX0_full_5 : decode cX0_full 5 = .ok (.goto 5, 3) := dk_167 0 5 (dk_at dksX0_full_0 5 rfl rfl)
theorem dX0_full_8 : decode cX0_full 8 = .ok (.bipush (-4), 2) := dk_16 252 (dk_at dksX0_full_0 8 rfl rfl)
theorem dX0_full_10 : decode cX0_full 10 = .ok (.ireturn, 1) := dk_172 (dk_at dksX0_full_0 10 rfl rfl)
abbrev cX0_open : ByteArray := prog_1_method_23_code
def yX0_open : MethodName := ⟨RX0, "open", "(IZ)I"⟩
def dkwX0_open_3 : List UInt8 := [172]
abbrev dktX0_open_3 : List UInt8 := dkwX0_open_3 ++ []
def dkwX0_open_2 : List UInt8 := [180, 0, 38, 180, 0, 95, 27, 182, 0, 106, 192, 0, 110, 28, 181, 0, 155, 42, 45, 21, 4, 182, 0, 124]
abbrev dktX0_open_2 : List UInt8 := dkwX0_open_2 ++ dktX0_open_3
def dkwX0_open_1 : List UInt8 := [180, 0, 95, 27, 182, 0, 106, 192, 0, 110, 180, 0, 155, 153, 0, 7, 4, 167, 0, 4, 3, 54, 4, 42]
abbrev dktX0_open_1 : List UInt8 := dkwX0_open_1 ++ dktX0_open_2
def dkwX0_open_0 : List UInt8 := [42, 27, 182, 0, 102, 154, 0, 5, 2, 172, 42, 180, 0, 38, 182, 0, 115, 78, 42, 180, 0, 38]
abbrev dktX0_open_0 : List UInt8 := dkwX0_open_0 ++ dktX0_open_1
theorem dksX0_open_0 : cX0_open.data.toList.drop 0 = dktX0_open_0 := by decide +kernel
theorem dksX0_open_1 : cX0_open.data.toList.drop 22 = dktX0_open_1 := dk_seg dksX0_open_0 22 rfl rfl
theorem dksX0_open_2 : cX0_open.data.toList.drop 46 = dktX0_open_2 := dk_seg dksX0_open_1 24 rfl rfl
theorem dksX0_open_3 : cX0_open.data.toList.drop 70 = dktX0_open_3 := dk_seg dksX0_open_2 24 rfl rfl
theorem dX0_open_0 : decode cX0_open 0 = .ok (.aload_n 0, 1) := dk_42 (dk_at dksX0_open_0 0 rfl rfl)
theorem dX0_open_1 : decode cX0_open 1 = .ok (.iload_n 1, 1) := dk_27 (dk_at dksX0_open_0 1 rfl rfl)
theorem dX0_open_2 : decode cX0_open 2 = .ok (.invokevirtual 102, 3) := dk_182 0 102 (dk_at dksX0_open_0 2 rfl rfl)
theorem dX0_open_5 : decode cX0_open 5 = .ok (.ifCond .ne 5, 3) := dk_154 0 5 (dk_at dksX0_open_0 5 rfl rfl)
theorem dX0_open_8 : decode cX0_open 8 = .ok (.iconst (-1), 1) := dk_2 (dk_at dksX0_open_0 8 rfl rfl)
theorem dX0_open_9 : decode cX0_open 9 = .ok (.ireturn, 1) := dk_172 (dk_at dksX0_open_0 9 rfl rfl)
theorem dX0_open_10 : decode cX0_open 10 = .ok (.aload_n 0, 1) := dk_42 (dk_at dksX0_open_0 10 rfl rfl)
theorem dX0_open_11 : decode cX0_open 11 = .ok (.getfield 38, 3) := dk_180 0 38 (dk_at dksX0_open_0 11 rfl rfl)
theorem dX0_open_14 : decode cX0_open 14 = .ok (.invokevirtual 115, 3) := dk_182 0 115 (dk_at dksX0_open_0 14 rfl rfl)
theorem dX0_open_17 : decode cX0_open 17 = .ok (.astore_n 3, 1) := dk_78 (dk_at dksX0_open_0 17 rfl rfl)
theorem dX0_open_18 : decode cX0_open 18 = .ok (.aload_n 0, 1) := dk_42 (dk_at dksX0_open_0 18 rfl rfl)
theorem dX0_open_19 : decode cX0_open 19 = .ok (.getfield 38, 3) := dk_180 0 38 (dk_at dksX0_open_0 19 rfl rfl)
theorem dX0_open_22 : decode cX0_open 22 = .ok (.getfield 95, 3) := dk_180 0 95 (dk_at dksX0_open_1 0 rfl rfl)
theorem dX0_open_25 : decode cX0_open 25 = .ok (.iload_n 1, 1) := dk_27 (dk_at dksX0_open_1 3 rfl rfl)
theorem dX0_open_26 : decode cX0_open 26 = .ok (.invokevirtual 106, 3) := dk_182 0 106 (dk_at dksX0_open_1 4 rfl rfl)
theorem dX0_open_29 : decode cX0_open 29 = .ok (.checkcast 110, 3) := dk_192 0 110 (dk_at dksX0_open_1 7 rfl rfl)
theorem dX0_open_32 : decode cX0_open 32 = .ok (.getfield 155, 3) := dk_180 0 155 (dk_at dksX0_open_1 10 rfl rfl)
theorem dX0_open_35 : decode cX0_open 35 = .ok (.ifCond .eq 7, 3) := dk_153 0 7 (dk_at dksX0_open_1 13 rfl rfl)
theorem dX0_open_38 : decode cX0_open 38 = .ok (.iconst 1, 1) := dk_4 (dk_at dksX0_open_1 16 rfl rfl)
theorem dX0_open_39 : decode cX0_open 39 = .ok (.goto 4, 3) := dk_167 0 4 (dk_at dksX0_open_1 17 rfl rfl)
theorem dX0_open_42 : decode cX0_open 42 = .ok (.iconst 0, 1) := dk_3 (dk_at dksX0_open_1 20 rfl rfl)
theorem dX0_open_43 : decode cX0_open 43 = .ok (.istore 4, 2) := dk_54 4 (dk_at dksX0_open_1 21 rfl rfl)
theorem dX0_open_45 : decode cX0_open 45 = .ok (.aload_n 0, 1) := dk_42 (dk_at dksX0_open_1 23 rfl rfl)
theorem dX0_open_46 : decode cX0_open 46 = .ok (.getfield 38, 3) := dk_180 0 38 (dk_at dksX0_open_2 0 rfl rfl)
theorem dX0_open_49 : decode cX0_open 49 = .ok (.getfield 95, 3) := dk_180 0 95 (dk_at dksX0_open_2 3 rfl rfl)
theorem dX0_open_52 : decode cX0_open 52 = .ok (.iload_n 1, 1) := dk_27 (dk_at dksX0_open_2 6 rfl rfl)
theorem dX0_open_53 : decode cX0_open 53 = .ok (.invokevirtual 106, 3) := dk_182 0 106 (dk_at dksX0_open_2 7 rfl rfl)
theorem dX0_open_56 : decode cX0_open 56 = .ok (.checkcast 110, 3) := dk_192 0 110 (dk_at dksX0_open_2 10 rfl rfl)
theorem dX0_open_59 : decode cX0_open 59 = .ok (.iload_n 2, 1) := dk_28 (dk_at dksX0_open_2 13 rfl rfl)
theorem dX0_open_60 : decode cX0_open 60 = .ok (.putfield 155, 3) := dk_181 0 155 (dk_at dksX0_open_2 14 rfl rfl)
theorem dX0_open_63 : decode cX0_open 63 = .ok (.aload_n 0, 1) := dk_42 (dk_at dksX0_open_2 17 rfl rfl)
theorem dX0_open_64 : decode cX0_open 64 = .ok (.aload_n 3, 1) := dk_45 (dk_at dksX0_open_2 18 rfl rfl)
theorem dX0_open_65 : decode cX0_open 65 = .ok (.iload 4, 2) := dk_21 4 (dk_at dksX0_open_2 19 rfl rfl)
theorem dX0_open_67 : decode cX0_open 67 = .ok (.invokevirtual 124, 3) := dk_182 0 124 (dk_at dksX0_open_2 21 rfl rfl)
theorem dX0_open_70 : decode cX0_open 70 = .ok (.ireturn, 1) := dk_172 (dk_at dksX0_open_3 0 rfl rfl)
abbrev cX0_ofVersion : ByteArray := prog_1_method_25_code
def yX0_ofVersion : MethodName := ⟨RX0, "ofVersion", "(III)I"⟩
def dkwX0_ofVersion_5 : List UInt8 := [182, 0, 184, 167, 0, 9, 42, 27, 28, 182, 0, 187, 172]
abbrev dktX0_ofVersion_5 : List UInt8 := dkwX0_ofVersion_5 ++ []
def dkwX0_ofVersion_4 : List UInt8 := [25, 5, 180, 0, 112, 28, 182, 0, 106, 192, 0, 46, 29, 182, 0, 180, 167, 0, 18, 25, 5, 28]
abbrev dktX0_ofVersion_4 : List UInt8 := dkwX0_ofVersion_4 ++ dktX0_ofVersion_5
def dkwX0_ofVersion_3 : List UInt8 := [170, 0, 0, 0, 0, 58, 0, 0, 0, 0, 0, 0, 0, 3, 0, 0, 0, 30, 0, 0, 0, 30, 0, 0, 0, 30, 0, 0, 0, 49]
abbrev dktX0_ofVersion_3 : List UInt8 := dkwX0_ofVersion_3 ++ dktX0_ofVersion_4
def dkwX0_ofVersion_2 : List UInt8 := [27, 182, 0, 106, 192, 0, 110, 58, 5, 29]
abbrev dktX0_ofVersion_2 : List UInt8 := dkwX0_ofVersion_2 ++ dktX0_ofVersion_3
def dkwX0_ofVersion_1 : List UInt8 := [184, 0, 136, 79, 184, 0, 139, 54, 4, 21, 4, 153, 0, 6, 21, 4, 172, 42, 180, 0, 38, 180, 0, 95]
abbrev dktX0_ofVersion_1 : List UInt8 := dkwX0_ofVersion_1 ++ dktX0_ofVersion_2
def dkwX0_ofVersion_0 : List UInt8 := [5, 188, 10, 89, 3, 42, 42, 27, 28, 182, 0, 177, 182, 0, 128, 79, 89, 4, 29, 3, 7, 184, 0, 98]
abbrev dktX0_ofVersion_0 : List UInt8 := dkwX0_ofVersion_0 ++ dktX0_ofVersion_1
theorem dksX0_ofVersion_0 : cX0_ofVersion.data.toList.drop 0 = dktX0_ofVersion_0 := by decide +kernel
theorem dksX0_ofVersion_1 : cX0_ofVersion.data.toList.drop 24 = dktX0_ofVersion_1 := dk_seg dksX0_ofVersion_0 24 rfl rfl
theorem dksX0_ofVersion_2 : cX0_ofVersion.data.toList.drop 48 = dktX0_ofVersion_2 := dk_seg dksX0_ofVersion_1 24 rfl rfl
theorem dksX0_ofVersion_3 : cX0_ofVersion.data.toList.drop 58 = dktX0_ofVersion_3 := dk_seg dksX0_ofVersion_2 10 rfl rfl
theorem dksX0_ofVersion_4 : cX0_ofVersion.data.toList.drop 88 = dktX0_ofVersion_4 := dk_seg dksX0_ofVersion_3 30 rfl rfl
theorem dksX0_ofVersion_5 : cX0_ofVersion.data.toList.drop 110 = dktX0_ofVersion_5 := dk_seg dksX0_ofVersion_4 22 rfl rfl
theorem dX0_ofVersion_0 : decode cX0_ofVersion 0 = .ok (.iconst 2, 1) := dk_5 (dk_at dksX0_ofVersion_0 0 rfl rfl)
theorem dX0_ofVersion_1 : decode cX0_ofVersion 1 = .ok (.newarray .int, 2) := dk_188_10 (dk_at dksX0_ofVersion_0 1 rfl rfl)
theorem dX0_ofVersion_3 : decode cX0_ofVersion 3 = .ok (.dup, 1) := dk_89 (dk_at dksX0_ofVersion_0 3 rfl rfl)
theorem dX0_ofVersion_4 : decode cX0_ofVersion 4 = .ok (.iconst 0, 1) := dk_3 (dk_at dksX0_ofVersion_0 4 rfl rfl)
theorem dX0_ofVersion_5 : decode cX0_ofVersion 5 = .ok (.aload_n 0, 1) := dk_42 (dk_at dksX0_ofVersion_0 5 rfl rfl)
theorem dX0_ofVersion_6 : decode cX0_ofVersion 6 = .ok (.aload_n 0, 1) := dk_42 (dk_at dksX0_ofVersion_0 6 rfl rfl)
theorem dX0_ofVersion_7 : decode cX0_ofVersion 7 = .ok (.iload_n 1, 1) := dk_27 (dk_at dksX0_ofVersion_0 7 rfl rfl)
theorem dX0_ofVersion_8 : decode cX0_ofVersion 8 = .ok (.iload_n 2, 1) := dk_28 (dk_at dksX0_ofVersion_0 8 rfl rfl)
theorem dX0_ofVersion_9 : decode cX0_ofVersion 9 = .ok (.invokevirtual 177, 3) := dk_182 0 177 (dk_at dksX0_ofVersion_0 9 rfl rfl)
theorem dX0_ofVersion_12 : decode cX0_ofVersion 12 = .ok (.invokevirtual 128, 3) := dk_182 0 128 (dk_at dksX0_ofVersion_0 12 rfl rfl)
theorem dX0_ofVersion_15 : decode cX0_ofVersion 15 = .ok (.iastore, 1) := dk_79 (dk_at dksX0_ofVersion_0 15 rfl rfl)
theorem dX0_ofVersion_16 : decode cX0_ofVersion 16 = .ok (.dup, 1) := dk_89 (dk_at dksX0_ofVersion_0 16 rfl rfl)
theorem dX0_ofVersion_17 : decode cX0_ofVersion 17 = .ok (.iconst 1, 1) := dk_4 (dk_at dksX0_ofVersion_0 17 rfl rfl)
theorem dX0_ofVersion_18 : decode cX0_ofVersion 18 = .ok (.iload_n 3, 1) := dk_29 (dk_at dksX0_ofVersion_0 18 rfl rfl)
theorem dX0_ofVersion_19 : decode cX0_ofVersion 19 = .ok (.iconst 0, 1) := dk_3 (dk_at dksX0_ofVersion_0 19 rfl rfl)
theorem dX0_ofVersion_20 : decode cX0_ofVersion 20 = .ok (.iconst 4, 1) := dk_7 (dk_at dksX0_ofVersion_0 20 rfl rfl)
theorem dX0_ofVersion_21 : decode cX0_ofVersion 21 = .ok (.invokestatic 98, 3) := dk_184 0 98 (dk_at dksX0_ofVersion_0 21 rfl rfl)
theorem dX0_ofVersion_24 : decode cX0_ofVersion 24 = .ok (.invokestatic 136, 3) := dk_184 0 136 (dk_at dksX0_ofVersion_1 0 rfl rfl)
theorem dX0_ofVersion_27 : decode cX0_ofVersion 27 = .ok (.iastore, 1) := dk_79 (dk_at dksX0_ofVersion_1 3 rfl rfl)
theorem dX0_ofVersion_28 : decode cX0_ofVersion 28 = .ok (.invokestatic 139, 3) := dk_184 0 139 (dk_at dksX0_ofVersion_1 4 rfl rfl)
theorem dX0_ofVersion_31 : decode cX0_ofVersion 31 = .ok (.istore 4, 2) := dk_54 4 (dk_at dksX0_ofVersion_1 7 rfl rfl)
theorem dX0_ofVersion_33 : decode cX0_ofVersion 33 = .ok (.iload 4, 2) := dk_21 4 (dk_at dksX0_ofVersion_1 9 rfl rfl)
theorem dX0_ofVersion_35 : decode cX0_ofVersion 35 = .ok (.ifCond .eq 6, 3) := dk_153 0 6 (dk_at dksX0_ofVersion_1 11 rfl rfl)
theorem dX0_ofVersion_38 : decode cX0_ofVersion 38 = .ok (.iload 4, 2) := dk_21 4 (dk_at dksX0_ofVersion_1 14 rfl rfl)
theorem dX0_ofVersion_40 : decode cX0_ofVersion 40 = .ok (.ireturn, 1) := dk_172 (dk_at dksX0_ofVersion_1 16 rfl rfl)
theorem dX0_ofVersion_41 : decode cX0_ofVersion 41 = .ok (.aload_n 0, 1) := dk_42 (dk_at dksX0_ofVersion_1 17 rfl rfl)
theorem dX0_ofVersion_42 : decode cX0_ofVersion 42 = .ok (.getfield 38, 3) := dk_180 0 38 (dk_at dksX0_ofVersion_1 18 rfl rfl)
theorem dX0_ofVersion_45 : decode cX0_ofVersion 45 = .ok (.getfield 95, 3) := dk_180 0 95 (dk_at dksX0_ofVersion_1 21 rfl rfl)
theorem dX0_ofVersion_48 : decode cX0_ofVersion 48 = .ok (.iload_n 1, 1) := dk_27 (dk_at dksX0_ofVersion_2 0 rfl rfl)
theorem dX0_ofVersion_49 : decode cX0_ofVersion 49 = .ok (.invokevirtual 106, 3) := dk_182 0 106 (dk_at dksX0_ofVersion_2 1 rfl rfl)
theorem dX0_ofVersion_52 : decode cX0_ofVersion 52 = .ok (.checkcast 110, 3) := dk_192 0 110 (dk_at dksX0_ofVersion_2 4 rfl rfl)
theorem dX0_ofVersion_55 : decode cX0_ofVersion 55 = .ok (.astore 5, 2) := dk_58 5 (dk_at dksX0_ofVersion_2 7 rfl rfl)
theorem dX0_ofVersion_57 : decode cX0_ofVersion 57 = .ok (.iload_n 3, 1) := dk_29 (dk_at dksX0_ofVersion_2 9 rfl rfl)
theorem dX0_ofVersion_58 : decode cX0_ofVersion 58 = .ok (.tableswitch 58 0 3 #[30, 30, 30, 49], 30) := by decide +kernel
theorem dX0_ofVersion_88 : decode cX0_ofVersion 88 = .ok (.aload 5, 2) := dk_25 5 (dk_at dksX0_ofVersion_4 0 rfl rfl)
theorem dX0_ofVersion_90 : decode cX0_ofVersion 90 = .ok (.getfield 112, 3) := dk_180 0 112 (dk_at dksX0_ofVersion_4 2 rfl rfl)
theorem dX0_ofVersion_93 : decode cX0_ofVersion 93 = .ok (.iload_n 2, 1) := dk_28 (dk_at dksX0_ofVersion_4 5 rfl rfl)
theorem dX0_ofVersion_94 : decode cX0_ofVersion 94 = .ok (.invokevirtual 106, 3) := dk_182 0 106 (dk_at dksX0_ofVersion_4 6 rfl rfl)
theorem dX0_ofVersion_97 : decode cX0_ofVersion 97 = .ok (.checkcast 46, 3) := dk_192 0 46 (dk_at dksX0_ofVersion_4 9 rfl rfl)
theorem dX0_ofVersion_100 : decode cX0_ofVersion 100 = .ok (.iload_n 3, 1) := dk_29 (dk_at dksX0_ofVersion_4 12 rfl rfl)
theorem dX0_ofVersion_101 : decode cX0_ofVersion 101 = .ok (.invokevirtual 180, 3) := dk_182 0 180 (dk_at dksX0_ofVersion_4 13 rfl rfl)
theorem dX0_ofVersion_104 : decode cX0_ofVersion 104 = .ok (.goto 18, 3) := dk_167 0 18 (dk_at dksX0_ofVersion_4 16 rfl rfl)
theorem dX0_ofVersion_107 : decode cX0_ofVersion 107 = .ok (.aload 5, 2) := dk_25 5 (dk_at dksX0_ofVersion_4 19 rfl rfl)
theorem dX0_ofVersion_109 : decode cX0_ofVersion 109 = .ok (.iload_n 2, 1) := dk_28 (dk_at dksX0_ofVersion_4 21 rfl rfl)
theorem dX0_ofVersion_110 : decode cX0_ofVersion 110 = .ok (.invokevirtual 184, 3) := dk_182 0 184 (dk_at dksX0_ofVersion_5 0 rfl rfl)
theorem dX0_ofVersion_113 : decode cX0_ofVersion 113 = .ok (.goto 9, 3) := dk_167 0 9 (dk_at dksX0_ofVersion_5 3 rfl rfl)
theorem dX0_ofVersion_116 : decode cX0_ofVersion 116 = .ok (.aload_n 0, 1) := dk_42 (dk_at dksX0_ofVersion_5 6 rfl rfl)
theorem dX0_ofVersion_117 : decode cX0_ofVersion 117 = .ok (.iload_n 1, 1) := dk_27 (dk_at dksX0_ofVersion_5 7 rfl rfl)
theorem dX0_ofVersion_118 : decode cX0_ofVersion 118 = .ok (.iload_n 2, 1) := dk_28 (dk_at dksX0_ofVersion_5 8 rfl rfl)
theorem dX0_ofVersion_119 : decode cX0_ofVersion 119 = .ok (.invokevirtual 187, 3) := dk_182 0 187 (dk_at dksX0_ofVersion_5 9 rfl rfl)
theorem dX0_ofVersion_122 : decode cX0_ofVersion 122 = .ok (.ireturn, 1) := dk_172 (dk_at dksX0_ofVersion_5 12 rfl rfl)
abbrev cX0_isVersion : ByteArray := prog_1_method_17_code
def yX0_isVersion : MethodName := ⟨RX0, "isVersion", "(II)Z"⟩
def dkwX0_isVersion_1 : List UInt8 := [180, 0, 112, 182, 0, 72, 4, 100, 184, 0, 98, 153, 0, 7, 4, 167, 0, 4, 3, 172]
abbrev dktX0_isVersion_1 : List UInt8 := dkwX0_isVersion_1 ++ []
def dkwX0_isVersion_0 : List UInt8 := [42, 27, 182, 0, 102, 153, 0, 37, 28, 3, 42, 180, 0, 38, 180, 0, 95, 27, 182, 0, 106, 192, 0, 110]
abbrev dktX0_isVersion_0 : List UInt8 := dkwX0_isVersion_0 ++ dktX0_isVersion_1
theorem dksX0_isVersion_0 : cX0_isVersion.data.toList.drop 0 = dktX0_isVersion_0 := by decide +kernel
theorem dksX0_isVersion_1 : cX0_isVersion.data.toList.drop 24 = dktX0_isVersion_1 := dk_seg dksX0_isVersion_0 24 rfl rfl
theorem dX0_isVersion_0 : decode cX0_isVersion 0 = .ok (.aload_n 0, 1) := dk_42 (dk_at dksX0_isVersion_0 0 rfl rfl)
theorem dX0_isVersion_1 : decode cX0_isVersion 1 = .ok (.iload_n 1, 1) := dk_27 (dk_at dksX0_isVersion_0 1 rfl rfl)
theorem dX0_isVersion_2 : decode cX0_isVersion 2 = .ok (.invokevirtual 102, 3) := dk_182 0 102 (dk_at dksX0_isVersion_0 2 rfl rfl)
theorem dX0_isVersion_5 : decode cX0_isVersion 5 = .ok (.ifCond .eq 37, 3) := dk_153 0 37 (dk_at dksX0_isVersion_0 5 rfl rfl)
theorem dX0_isVersion_8 : decode cX0_isVersion 8 = .ok (.iload_n 2, 1) := dk_28 (dk_at dksX0_isVersion_0 8 rfl rfl)
theorem dX0_isVersion_9 : decode cX0_isVersion 9 = .ok (.iconst 0, 1) := dk_3 (dk_at dksX0_isVersion_0 9 rfl rfl)
theorem dX0_isVersion_10 : decode cX0_isVersion 10 = .ok (.aload_n 0, 1) := dk_42 (dk_at dksX0_isVersion_0 10 rfl rfl)
theorem dX0_isVersion_11 : decode cX0_isVersion 11 = .ok (.getfield 38, 3) := dk_180 0 38 (dk_at dksX0_isVersion_0 11 rfl rfl)
theorem dX0_isVersion_14 : decode cX0_isVersion 14 = .ok (.getfield 95, 3) := dk_180 0 95 (dk_at dksX0_isVersion_0 14 rfl rfl)
theorem dX0_isVersion_17 : decode cX0_isVersion 17 = .ok (.iload_n 1, 1) := dk_27 (dk_at dksX0_isVersion_0 17 rfl rfl)
theorem dX0_isVersion_18 : decode cX0_isVersion 18 = .ok (.invokevirtual 106, 3) := dk_182 0 106 (dk_at dksX0_isVersion_0 18 rfl rfl)
theorem dX0_isVersion_21 : decode cX0_isVersion 21 = .ok (.checkcast 110, 3) := dk_192 0 110 (dk_at dksX0_isVersion_0 21 rfl rfl)
theorem dX0_isVersion_24 : decode cX0_isVersion 24 = .ok (.getfield 112, 3) := dk_180 0 112 (dk_at dksX0_isVersion_1 0 rfl rfl)
theorem dX0_isVersion_27 : decode cX0_isVersion 27 = .ok (.invokevirtual 72, 3) := dk_182 0 72 (dk_at dksX0_isVersion_1 3 rfl rfl)
theorem dX0_isVersion_30 : decode cX0_isVersion 30 = .ok (.iconst 1, 1) := dk_4 (dk_at dksX0_isVersion_1 6 rfl rfl)
theorem dX0_isVersion_31 : decode cX0_isVersion 31 = .ok (.isub, 1) := dk_100 (dk_at dksX0_isVersion_1 7 rfl rfl)
theorem dX0_isVersion_32 : decode cX0_isVersion 32 = .ok (.invokestatic 98, 3) := dk_184 0 98 (dk_at dksX0_isVersion_1 8 rfl rfl)
theorem dX0_isVersion_35 : decode cX0_isVersion 35 = .ok (.ifCond .eq 7, 3) := dk_153 0 7 (dk_at dksX0_isVersion_1 11 rfl rfl)
theorem dX0_isVersion_38 : decode cX0_isVersion 38 = .ok (.iconst 1, 1) := dk_4 (dk_at dksX0_isVersion_1 14 rfl rfl)
theorem dX0_isVersion_39 : decode cX0_isVersion 39 = .ok (.goto 4, 3) := dk_167 0 4 (dk_at dksX0_isVersion_1 15 rfl rfl)
theorem dX0_isVersion_42 : decode cX0_isVersion 42 = .ok (.iconst 0, 1) := dk_3 (dk_at dksX0_isVersion_1 18 rfl rfl)
theorem dX0_isVersion_43 : decode cX0_isVersion 43 = .ok (.ireturn, 1) := dk_172 (dk_at dksX0_isVersion_1 19 rfl rfl)
abbrev cX0_tiesOf : ByteArray := prog_1_method_24_code
def yX0_tiesOf : MethodName := ⟨RX0, "tiesOf", "(II)I"⟩
def dkwX0_tiesOf_2 : List UInt8 := [167, 0, 4, 3, 96, 62, 167, 255, 216, 29, 172]
abbrev dktX0_tiesOf_2 : List UInt8 := dkwX0_tiesOf_2 ++ []
def dkwX0_tiesOf_1 : List UInt8 := [25, 4, 185, 0, 168, 1, 0, 192, 0, 171, 58, 5, 29, 25, 5, 27, 28, 182, 0, 173, 153, 0, 7, 4]
abbrev dktX0_tiesOf_1 : List UInt8 := dkwX0_tiesOf_1 ++ dktX0_tiesOf_2
def dkwX0_tiesOf_0 : List UInt8 := [3, 62, 42, 180, 0, 38, 180, 0, 68, 182, 0, 159, 58, 4, 25, 4, 185, 0, 163, 1, 0, 153, 0, 36]
abbrev dktX0_tiesOf_0 : List UInt8 := dkwX0_tiesOf_0 ++ dktX0_tiesOf_1
theorem dksX0_tiesOf_0 : cX0_tiesOf.data.toList.drop 0 = dktX0_tiesOf_0 := by decide +kernel
theorem dksX0_tiesOf_1 : cX0_tiesOf.data.toList.drop 24 = dktX0_tiesOf_1 := dk_seg dksX0_tiesOf_0 24 rfl rfl
theorem dksX0_tiesOf_2 : cX0_tiesOf.data.toList.drop 48 = dktX0_tiesOf_2 := dk_seg dksX0_tiesOf_1 24 rfl rfl
theorem dX0_tiesOf_0 : decode cX0_tiesOf 0 = .ok (.iconst 0, 1) := dk_3 (dk_at dksX0_tiesOf_0 0 rfl rfl)
theorem dX0_tiesOf_1 : decode cX0_tiesOf 1 = .ok (.istore_n 3, 1) := dk_62 (dk_at dksX0_tiesOf_0 1 rfl rfl)
theorem dX0_tiesOf_2 : decode cX0_tiesOf 2 = .ok (.aload_n 0, 1) := dk_42 (dk_at dksX0_tiesOf_0 2 rfl rfl)
theorem dX0_tiesOf_3 : decode cX0_tiesOf 3 = .ok (.getfield 38, 3) := dk_180 0 38 (dk_at dksX0_tiesOf_0 3 rfl rfl)
theorem dX0_tiesOf_6 : decode cX0_tiesOf 6 = .ok (.getfield 68, 3) := dk_180 0 68 (dk_at dksX0_tiesOf_0 6 rfl rfl)
theorem dX0_tiesOf_9 : decode cX0_tiesOf 9 = .ok (.invokevirtual 159, 3) := dk_182 0 159 (dk_at dksX0_tiesOf_0 9 rfl rfl)
theorem dX0_tiesOf_12 : decode cX0_tiesOf 12 = .ok (.astore 4, 2) := dk_58 4 (dk_at dksX0_tiesOf_0 12 rfl rfl)
theorem dX0_tiesOf_14 : decode cX0_tiesOf 14 = .ok (.aload 4, 2) := dk_25 4 (dk_at dksX0_tiesOf_0 14 rfl rfl)
theorem dX0_tiesOf_16 : decode cX0_tiesOf 16 = .ok (.invokeinterface 163 1, 5) := by decide +kernel
theorem dX0_tiesOf_21 : decode cX0_tiesOf 21 = .ok (.ifCond .eq 36, 3) := dk_153 0 36 (dk_at dksX0_tiesOf_0 21 rfl rfl)
theorem dX0_tiesOf_24 : decode cX0_tiesOf 24 = .ok (.aload 4, 2) := dk_25 4 (dk_at dksX0_tiesOf_1 0 rfl rfl)
theorem dX0_tiesOf_26 : decode cX0_tiesOf 26 = .ok (.invokeinterface 168 1, 5) := by decide +kernel
theorem dX0_tiesOf_31 : decode cX0_tiesOf 31 = .ok (.checkcast 171, 3) := dk_192 0 171 (dk_at dksX0_tiesOf_1 7 rfl rfl)
theorem dX0_tiesOf_34 : decode cX0_tiesOf 34 = .ok (.astore 5, 2) := dk_58 5 (dk_at dksX0_tiesOf_1 10 rfl rfl)
theorem dX0_tiesOf_36 : decode cX0_tiesOf 36 = .ok (.iload_n 3, 1) := dk_29 (dk_at dksX0_tiesOf_1 12 rfl rfl)
theorem dX0_tiesOf_37 : decode cX0_tiesOf 37 = .ok (.aload 5, 2) := dk_25 5 (dk_at dksX0_tiesOf_1 13 rfl rfl)
theorem dX0_tiesOf_39 : decode cX0_tiesOf 39 = .ok (.iload_n 1, 1) := dk_27 (dk_at dksX0_tiesOf_1 15 rfl rfl)
theorem dX0_tiesOf_40 : decode cX0_tiesOf 40 = .ok (.iload_n 2, 1) := dk_28 (dk_at dksX0_tiesOf_1 16 rfl rfl)
theorem dX0_tiesOf_41 : decode cX0_tiesOf 41 = .ok (.invokevirtual 173, 3) := dk_182 0 173 (dk_at dksX0_tiesOf_1 17 rfl rfl)
theorem dX0_tiesOf_44 : decode cX0_tiesOf 44 = .ok (.ifCond .eq 7, 3) := dk_153 0 7 (dk_at dksX0_tiesOf_1 20 rfl rfl)
theorem dX0_tiesOf_47 : decode cX0_tiesOf 47 = .ok (.iconst 1, 1) := dk_4 (dk_at dksX0_tiesOf_1 23 rfl rfl)
theorem dX0_tiesOf_48 : decode cX0_tiesOf 48 = .ok (.goto 4, 3) := dk_167 0 4 (dk_at dksX0_tiesOf_2 0 rfl rfl)
theorem dX0_tiesOf_51 : decode cX0_tiesOf 51 = .ok (.iconst 0, 1) := dk_3 (dk_at dksX0_tiesOf_2 3 rfl rfl)
theorem dX0_tiesOf_52 : decode cX0_tiesOf 52 = .ok (.iadd, 1) := dk_96 (dk_at dksX0_tiesOf_2 4 rfl rfl)
theorem dX0_tiesOf_53 : decode cX0_tiesOf 53 = .ok (.istore_n 3, 1) := dk_62 (dk_at dksX0_tiesOf_2 5 rfl rfl)
theorem dX0_tiesOf_54 : decode cX0_tiesOf 54 = .ok (.goto (-40), 3) := dk_167 255 216 (dk_at dksX0_tiesOf_2 6 rfl rfl)
theorem dX0_tiesOf_57 : decode cX0_tiesOf 57 = .ok (.iload_n 3, 1) := dk_29 (dk_at dksX0_tiesOf_2 9 rfl rfl)
theorem dX0_tiesOf_58 : decode cX0_tiesOf 58 = .ok (.ireturn, 1) := dk_172 (dk_at dksX0_tiesOf_2 10 rfl rfl)
abbrev cX0_covers : ByteArray := prog_1_method_26_code
def yX0_covers : MethodName := ⟨RX0, "covers", "(II)I"⟩
def dkwX0_covers_2 : List UInt8 := [192, 0, 110, 28, 182, 0, 194, 172]
abbrev dktX0_covers_2 : List UInt8 := dkwX0_covers_2 ++ []
def dkwX0_covers_1 : List UInt8 := [79, 184, 0, 139, 62, 29, 153, 0, 7, 29, 167, 0, 21, 42, 180, 0, 38, 180, 0, 95, 27, 182, 0, 106]
abbrev dktX0_covers_1 : List UInt8 := dkwX0_covers_1 ++ dktX0_covers_2
def dkwX0_covers_0 : List UInt8 := [5, 188, 10, 89, 3, 42, 42, 27, 182, 0, 102, 182, 0, 128, 79, 89, 4, 28, 184, 0, 191, 184, 0, 136]
abbrev dktX0_covers_0 : List UInt8 := dkwX0_covers_0 ++ dktX0_covers_1
theorem dksX0_covers_0 : cX0_covers.data.toList.drop 0 = dktX0_covers_0 := by decide +kernel
theorem dksX0_covers_1 : cX0_covers.data.toList.drop 24 = dktX0_covers_1 := dk_seg dksX0_covers_0 24 rfl rfl
theorem dksX0_covers_2 : cX0_covers.data.toList.drop 48 = dktX0_covers_2 := dk_seg dksX0_covers_1 24 rfl rfl
theorem dX0_covers_0 : decode cX0_covers 0 = .ok (.iconst 2, 1) := dk_5 (dk_at dksX0_covers_0 0 rfl rfl)
theorem dX0_covers_1 : decode cX0_covers 1 = .ok (.newarray .int, 2) := dk_188_10 (dk_at dksX0_covers_0 1 rfl rfl)
theorem dX0_covers_3 : decode cX0_covers 3 = .ok (.dup, 1) := dk_89 (dk_at dksX0_covers_0 3 rfl rfl)
theorem dX0_covers_4 : decode cX0_covers 4 = .ok (.iconst 0, 1) := dk_3 (dk_at dksX0_covers_0 4 rfl rfl)
theorem dX0_covers_5 : decode cX0_covers 5 = .ok (.aload_n 0, 1) := dk_42 (dk_at dksX0_covers_0 5 rfl rfl)
theorem dX0_covers_6 : decode cX0_covers 6 = .ok (.aload_n 0, 1) := dk_42 (dk_at dksX0_covers_0 6 rfl rfl)
theorem dX0_covers_7 : decode cX0_covers 7 = .ok (.iload_n 1, 1) := dk_27 (dk_at dksX0_covers_0 7 rfl rfl)
theorem dX0_covers_8 : decode cX0_covers 8 = .ok (.invokevirtual 102, 3) := dk_182 0 102 (dk_at dksX0_covers_0 8 rfl rfl)
theorem dX0_covers_11 : decode cX0_covers 11 = .ok (.invokevirtual 128, 3) := dk_182 0 128 (dk_at dksX0_covers_0 11 rfl rfl)
theorem dX0_covers_14 : decode cX0_covers 14 = .ok (.iastore, 1) := dk_79 (dk_at dksX0_covers_0 14 rfl rfl)
theorem dX0_covers_15 : decode cX0_covers 15 = .ok (.dup, 1) := dk_89 (dk_at dksX0_covers_0 15 rfl rfl)
theorem dX0_covers_16 : decode cX0_covers 16 = .ok (.iconst 1, 1) := dk_4 (dk_at dksX0_covers_0 16 rfl rfl)
theorem dX0_covers_17 : decode cX0_covers 17 = .ok (.iload_n 2, 1) := dk_28 (dk_at dksX0_covers_0 17 rfl rfl)
theorem dX0_covers_18 : decode cX0_covers 18 = .ok (.invokestatic 191, 3) := dk_184 0 191 (dk_at dksX0_covers_0 18 rfl rfl)
theorem dX0_covers_21 : decode cX0_covers 21 = .ok (.invokestatic 136, 3) := dk_184 0 136 (dk_at dksX0_covers_0 21 rfl rfl)
theorem dX0_covers_24 : decode cX0_covers 24 = .ok (.iastore, 1) := dk_79 (dk_at dksX0_covers_1 0 rfl rfl)
theorem dX0_covers_25 : decode cX0_covers 25 = .ok (.invokestatic 139, 3) := dk_184 0 139 (dk_at dksX0_covers_1 1 rfl rfl)
theorem dX0_covers_28 : decode cX0_covers 28 = .ok (.istore_n 3, 1) := dk_62 (dk_at dksX0_covers_1 4 rfl rfl)
theorem dX0_covers_29 : decode cX0_covers 29 = .ok (.iload_n 3, 1) := dk_29 (dk_at dksX0_covers_1 5 rfl rfl)
theorem dX0_covers_30 : decode cX0_covers 30 = .ok (.ifCond .eq 7, 3) := dk_153 0 7 (dk_at dksX0_covers_1 6 rfl rfl)
theorem dX0_covers_33 : decode cX0_covers 33 = .ok (.iload_n 3, 1) := dk_29 (dk_at dksX0_covers_1 9 rfl rfl)
theorem dX0_covers_34 : decode cX0_covers 34 = .ok (.goto 21, 3) := dk_167 0 21 (dk_at dksX0_covers_1 10 rfl rfl)
theorem dX0_covers_37 : decode cX0_covers 37 = .ok (.aload_n 0, 1) := dk_42 (dk_at dksX0_covers_1 13 rfl rfl)
theorem dX0_covers_38 : decode cX0_covers 38 = .ok (.getfield 38, 3) := dk_180 0 38 (dk_at dksX0_covers_1 14 rfl rfl)
theorem dX0_covers_41 : decode cX0_covers 41 = .ok (.getfield 95, 3) := dk_180 0 95 (dk_at dksX0_covers_1 17 rfl rfl)
theorem dX0_covers_44 : decode cX0_covers 44 = .ok (.iload_n 1, 1) := dk_27 (dk_at dksX0_covers_1 20 rfl rfl)
theorem dX0_covers_45 : decode cX0_covers 45 = .ok (.invokevirtual 106, 3) := dk_182 0 106 (dk_at dksX0_covers_1 21 rfl rfl)
theorem dX0_covers_48 : decode cX0_covers 48 = .ok (.checkcast 110, 3) := dk_192 0 110 (dk_at dksX0_covers_2 0 rfl rfl)
theorem dX0_covers_51 : decode cX0_covers 51 = .ok (.iload_n 2, 1) := dk_28 (dk_at dksX0_covers_2 3 rfl rfl)
theorem dX0_covers_52 : decode cX0_covers 52 = .ok (.invokevirtual 194, 3) := dk_182 0 194 (dk_at dksX0_covers_2 4 rfl rfl)
theorem dX0_covers_55 : decode cX0_covers 55 = .ok (.ireturn, 1) := dk_172 (dk_at dksX0_covers_2 7 rfl rfl)
abbrev cX0_isRange : ByteArray := prog_1_method_19_code
def yX0_isRange : MethodName := ⟨RX0, "isRange", "(I)Z"⟩
def dkwX0_isRange_0 : List UInt8 := [26, 3, 17, 23, 111, 184, 0, 98, 172]
abbrev dktX0_isRange_0 : List UInt8 := dkwX0_isRange_0 ++ []
theorem dksX0_isRange_0 : cX0_isRange.data.toList.drop 0 = dktX0_isRange_0 := by decide +kernel
theorem dX0_isRange_0 : decode cX0_isRange 0 = .ok (.iload_n 0, 1) := dk_26 (dk_at dksX0_isRange_0 0 rfl rfl)
theorem dX0_isRange_1 : decode cX0_isRange 1 = .ok (.iconst 0, 1) := dk_3 (dk_at dksX0_isRange_0 1 rfl rfl)
theorem dX0_isRange_2 : decode cX0_isRange 2 = .ok (.sipush 5999, 3) := dk_17 23 111 (dk_at dksX0_isRange_0 2 rfl rfl)
theorem dX0_isRange_5 : decode cX0_isRange 5 = .ok (.invokestatic 98, 3) := dk_184 0 98 (dk_at dksX0_isRange_0 5 rfl rfl)
theorem dX0_isRange_8 : decode cX0_isRange 8 = .ok (.ireturn, 1) := dk_172 (dk_at dksX0_isRange_0 8 rfl rfl)
abbrev cX0_satisfies : ByteArray := prog_1_method_10_code
def yX0_satisfies : MethodName := ⟨RX0, "satisfies", "(LVersionSolver$Version;I)Z"⟩
def dkwX0_satisfies_5 : List UInt8 := [153, 0, 15, 42, 44, 182, 0, 55, 154, 0, 7, 4, 167, 0, 4, 3, 172]
abbrev dktX0_satisfies_5 : List UInt8 := dkwX0_satisfies_5 ++ []
def dkwX0_satisfies_4 : List UInt8 := [160, 0, 15, 42, 44, 182, 0, 55, 154, 0, 7, 4, 167, 0, 28, 3, 167, 0, 24, 42, 44, 182, 0, 61]
abbrev dktX0_satisfies_4 : List UInt8 := dkwX0_satisfies_4 ++ dktX0_satisfies_5
def dkwX0_satisfies_3 : List UInt8 := [182, 0, 55, 154, 0, 7, 4, 167, 0, 55, 3, 167, 0, 51, 42, 180, 0, 58, 44, 180, 0, 58]
abbrev dktX0_satisfies_3 : List UInt8 := dkwX0_satisfies_3 ++ dktX0_satisfies_4
def dkwX0_satisfies_2 : List UInt8 := [4, 167, 0, 83, 42, 44, 182, 0, 51, 167, 0, 75, 42, 44, 182, 0, 55, 167, 0, 67, 42, 44]
abbrev dktX0_satisfies_2 : List UInt8 := dkwX0_satisfies_2 ++ dktX0_satisfies_3
def dkwX0_satisfies_1 : List UInt8 := [170, 0, 0, 0, 0, 97, 0, 0, 0, 0, 0, 0, 0, 4, 0, 0, 0, 34, 0, 0, 0, 38, 0, 0, 0, 46, 0, 0, 0, 54, 0, 0, 0, 70]
abbrev dktX0_satisfies_1 : List UInt8 := dkwX0_satisfies_1 ++ dktX0_satisfies_2
def dkwX0_satisfies_0 : List UInt8 := [187, 0, 46, 89, 27, 183, 0, 48, 77, 27, 17, 3, 232, 108]
abbrev dktX0_satisfies_0 : List UInt8 := dkwX0_satisfies_0 ++ dktX0_satisfies_1
theorem dksX0_satisfies_0 : cX0_satisfies.data.toList.drop 0 = dktX0_satisfies_0 := by decide +kernel
theorem dksX0_satisfies_1 : cX0_satisfies.data.toList.drop 14 = dktX0_satisfies_1 := dk_seg dksX0_satisfies_0 14 rfl rfl
theorem dksX0_satisfies_2 : cX0_satisfies.data.toList.drop 48 = dktX0_satisfies_2 := dk_seg dksX0_satisfies_1 34 rfl rfl
theorem dksX0_satisfies_3 : cX0_satisfies.data.toList.drop 70 = dktX0_satisfies_3 := dk_seg dksX0_satisfies_2 22 rfl rfl
theorem dksX0_satisfies_4 : cX0_satisfies.data.toList.drop 92 = dktX0_satisfies_4 := dk_seg dksX0_satisfies_3 22 rfl rfl
theorem dksX0_satisfies_5 : cX0_satisfies.data.toList.drop 116 = dktX0_satisfies_5 := dk_seg dksX0_satisfies_4 24 rfl rfl
theorem dX0_satisfies_0 : decode cX0_satisfies 0 = .ok (.new 46, 3) := dk_187 0 46 (dk_at dksX0_satisfies_0 0 rfl rfl)
theorem dX0_satisfies_3 : decode cX0_satisfies 3 = .ok (.dup, 1) := dk_89 (dk_at dksX0_satisfies_0 3 rfl rfl)
theorem dX0_satisfies_4 : decode cX0_satisfies 4 = .ok (.iload_n 1, 1) := dk_27 (dk_at dksX0_satisfies_0 4 rfl rfl)
theorem dX0_satisfies_5 : decode cX0_satisfies 5 = .ok (.invokespecial 48, 3) := dk_183 0 48 (dk_at dksX0_satisfies_0 5 rfl rfl)
theorem dX0_satisfies_8 : decode cX0_satisfies 8 = .ok (.astore_n 2, 1) := dk_77 (dk_at dksX0_satisfies_0 8 rfl rfl)
theorem dX0_satisfies_9 : decode cX0_satisfies 9 = .ok (.iload_n 1, 1) := dk_27 (dk_at dksX0_satisfies_0 9 rfl rfl)
theorem dX0_satisfies_10 : decode cX0_satisfies 10 = .ok (.sipush 1000, 3) := dk_17 3 232 (dk_at dksX0_satisfies_0 10 rfl rfl)
theorem dX0_satisfies_13 : decode cX0_satisfies 13 = .ok (.idiv, 1) := dk_108 (dk_at dksX0_satisfies_0 13 rfl rfl)
theorem dX0_satisfies_14 : decode cX0_satisfies 14 = .ok (.tableswitch 97 0 4 #[34, 38, 46, 54, 70], 34) := by decide +kernel
theorem dX0_satisfies_48 : decode cX0_satisfies 48 = .ok (.iconst 1, 1) := dk_4 (dk_at dksX0_satisfies_2 0 rfl rfl)
theorem dX0_satisfies_49 : decode cX0_satisfies 49 = .ok (.goto 83, 3) := dk_167 0 83 (dk_at dksX0_satisfies_2 1 rfl rfl)
theorem dX0_satisfies_52 : decode cX0_satisfies 52 = .ok (.aload_n 0, 1) := dk_42 (dk_at dksX0_satisfies_2 4 rfl rfl)
theorem dX0_satisfies_53 : decode cX0_satisfies 53 = .ok (.aload_n 2, 1) := dk_44 (dk_at dksX0_satisfies_2 5 rfl rfl)
theorem dX0_satisfies_54 : decode cX0_satisfies 54 = .ok (.invokevirtual 51, 3) := dk_182 0 51 (dk_at dksX0_satisfies_2 6 rfl rfl)
theorem dX0_satisfies_57 : decode cX0_satisfies 57 = .ok (.goto 75, 3) := dk_167 0 75 (dk_at dksX0_satisfies_2 9 rfl rfl)
theorem dX0_satisfies_60 : decode cX0_satisfies 60 = .ok (.aload_n 0, 1) := dk_42 (dk_at dksX0_satisfies_2 12 rfl rfl)
theorem dX0_satisfies_61 : decode cX0_satisfies 61 = .ok (.aload_n 2, 1) := dk_44 (dk_at dksX0_satisfies_2 13 rfl rfl)
theorem dX0_satisfies_62 : decode cX0_satisfies 62 = .ok (.invokevirtual 55, 3) := dk_182 0 55 (dk_at dksX0_satisfies_2 14 rfl rfl)
theorem dX0_satisfies_65 : decode cX0_satisfies 65 = .ok (.goto 67, 3) := dk_167 0 67 (dk_at dksX0_satisfies_2 17 rfl rfl)
theorem dX0_satisfies_68 : decode cX0_satisfies 68 = .ok (.aload_n 0, 1) := dk_42 (dk_at dksX0_satisfies_2 20 rfl rfl)
theorem dX0_satisfies_69 : decode cX0_satisfies 69 = .ok (.aload_n 2, 1) := dk_44 (dk_at dksX0_satisfies_2 21 rfl rfl)
theorem dX0_satisfies_70 : decode cX0_satisfies 70 = .ok (.invokevirtual 55, 3) := dk_182 0 55 (dk_at dksX0_satisfies_3 0 rfl rfl)
theorem dX0_satisfies_73 : decode cX0_satisfies 73 = .ok (.ifCond .ne 7, 3) := dk_154 0 7 (dk_at dksX0_satisfies_3 3 rfl rfl)
theorem dX0_satisfies_76 : decode cX0_satisfies 76 = .ok (.iconst 1, 1) := dk_4 (dk_at dksX0_satisfies_3 6 rfl rfl)
theorem dX0_satisfies_77 : decode cX0_satisfies 77 = .ok (.goto 55, 3) := dk_167 0 55 (dk_at dksX0_satisfies_3 7 rfl rfl)
theorem dX0_satisfies_80 : decode cX0_satisfies 80 = .ok (.iconst 0, 1) := dk_3 (dk_at dksX0_satisfies_3 10 rfl rfl)
theorem dX0_satisfies_81 : decode cX0_satisfies 81 = .ok (.goto 51, 3) := dk_167 0 51 (dk_at dksX0_satisfies_3 11 rfl rfl)
theorem dX0_satisfies_84 : decode cX0_satisfies 84 = .ok (.aload_n 0, 1) := dk_42 (dk_at dksX0_satisfies_3 14 rfl rfl)
theorem dX0_satisfies_85 : decode cX0_satisfies 85 = .ok (.getfield 58, 3) := dk_180 0 58 (dk_at dksX0_satisfies_3 15 rfl rfl)
theorem dX0_satisfies_88 : decode cX0_satisfies 88 = .ok (.aload_n 2, 1) := dk_44 (dk_at dksX0_satisfies_3 18 rfl rfl)
theorem dX0_satisfies_89 : decode cX0_satisfies 89 = .ok (.getfield 58, 3) := dk_180 0 58 (dk_at dksX0_satisfies_3 19 rfl rfl)
theorem dX0_satisfies_92 : decode cX0_satisfies 92 = .ok (.if_icmp .ne 15, 3) := dk_160 0 15 (dk_at dksX0_satisfies_4 0 rfl rfl)
theorem dX0_satisfies_95 : decode cX0_satisfies 95 = .ok (.aload_n 0, 1) := dk_42 (dk_at dksX0_satisfies_4 3 rfl rfl)
theorem dX0_satisfies_96 : decode cX0_satisfies 96 = .ok (.aload_n 2, 1) := dk_44 (dk_at dksX0_satisfies_4 4 rfl rfl)
theorem dX0_satisfies_97 : decode cX0_satisfies 97 = .ok (.invokevirtual 55, 3) := dk_182 0 55 (dk_at dksX0_satisfies_4 5 rfl rfl)
theorem dX0_satisfies_100 : decode cX0_satisfies 100 = .ok (.ifCond .ne 7, 3) := dk_154 0 7 (dk_at dksX0_satisfies_4 8 rfl rfl)
theorem dX0_satisfies_103 : decode cX0_satisfies 103 = .ok (.iconst 1, 1) := dk_4 (dk_at dksX0_satisfies_4 11 rfl rfl)
theorem dX0_satisfies_104 : decode cX0_satisfies 104 = .ok (.goto 28, 3) := dk_167 0 28 (dk_at dksX0_satisfies_4 12 rfl rfl)
theorem dX0_satisfies_107 : decode cX0_satisfies 107 = .ok (.iconst 0, 1) := dk_3 (dk_at dksX0_satisfies_4 15 rfl rfl)
theorem dX0_satisfies_108 : decode cX0_satisfies 108 = .ok (.goto 24, 3) := dk_167 0 24 (dk_at dksX0_satisfies_4 16 rfl rfl)
theorem dX0_satisfies_111 : decode cX0_satisfies 111 = .ok (.aload_n 0, 1) := dk_42 (dk_at dksX0_satisfies_4 19 rfl rfl)
theorem dX0_satisfies_112 : decode cX0_satisfies 112 = .ok (.aload_n 2, 1) := dk_44 (dk_at dksX0_satisfies_4 20 rfl rfl)
theorem dX0_satisfies_113 : decode cX0_satisfies 113 = .ok (.invokevirtual 61, 3) := dk_182 0 61 (dk_at dksX0_satisfies_4 21 rfl rfl)
theorem dX0_satisfies_116 : decode cX0_satisfies 116 = .ok (.ifCond .eq 15, 3) := dk_153 0 15 (dk_at dksX0_satisfies_5 0 rfl rfl)
theorem dX0_satisfies_119 : decode cX0_satisfies 119 = .ok (.aload_n 0, 1) := dk_42 (dk_at dksX0_satisfies_5 3 rfl rfl)
theorem dX0_satisfies_120 : decode cX0_satisfies 120 = .ok (.aload_n 2, 1) := dk_44 (dk_at dksX0_satisfies_5 4 rfl rfl)
theorem dX0_satisfies_121 : decode cX0_satisfies 121 = .ok (.invokevirtual 55, 3) := dk_182 0 55 (dk_at dksX0_satisfies_5 5 rfl rfl)
theorem dX0_satisfies_124 : decode cX0_satisfies 124 = .ok (.ifCond .ne 7, 3) := dk_154 0 7 (dk_at dksX0_satisfies_5 8 rfl rfl)
theorem dX0_satisfies_127 : decode cX0_satisfies 127 = .ok (.iconst 1, 1) := dk_4 (dk_at dksX0_satisfies_5 11 rfl rfl)
theorem dX0_satisfies_128 : decode cX0_satisfies 128 = .ok (.goto 4, 3) := dk_167 0 4 (dk_at dksX0_satisfies_5 12 rfl rfl)
theorem dX0_satisfies_131 : decode cX0_satisfies 131 = .ok (.iconst 0, 1) := dk_3 (dk_at dksX0_satisfies_5 15 rfl rfl)
theorem dX0_satisfies_132 : decode cX0_satisfies 132 = .ok (.ireturn, 1) := dk_172 (dk_at dksX0_satisfies_5 16 rfl rfl)
abbrev cX0_namesLine : ByteArray := prog_1_method_11_code
def yX0_namesLine : MethodName := ⟨RX0, "namesLine", "(LVersionSolver$Version;I)Z"⟩
def dkwX0_namesLine_1 : List UInt8 := [42, 182, 0, 61, 153, 0, 7, 4, 167, 0, 4, 3, 172]
abbrev dktX0_namesLine_1 : List UInt8 := dkwX0_namesLine_1 ++ []
def dkwX0_namesLine_0 : List UInt8 := [187, 0, 46, 89, 27, 183, 0, 48, 77, 27, 17, 3, 232, 161, 0, 22, 44, 182, 0, 64, 154, 0, 15, 44]
abbrev dktX0_namesLine_0 : List UInt8 := dkwX0_namesLine_0 ++ dktX0_namesLine_1
theorem dksX0_namesLine_0 : cX0_namesLine.data.toList.drop 0 = dktX0_namesLine_0 := by decide +kernel
theorem dksX0_namesLine_1 : cX0_namesLine.data.toList.drop 24 = dktX0_namesLine_1 := dk_seg dksX0_namesLine_0 24 rfl rfl
theorem dX0_namesLine_0 : decode cX0_namesLine 0 = .ok (.new 46, 3) := dk_187 0 46 (dk_at dksX0_namesLine_0 0 rfl rfl)
theorem dX0_namesLine_3 : decode cX0_namesLine 3 = .ok (.dup, 1) := dk_89 (dk_at dksX0_namesLine_0 3 rfl rfl)
theorem dX0_namesLine_4 : decode cX0_namesLine 4 = .ok (.iload_n 1, 1) := dk_27 (dk_at dksX0_namesLine_0 4 rfl rfl)
theorem dX0_namesLine_5 : decode cX0_namesLine 5 = .ok (.invokespecial 48, 3) := dk_183 0 48 (dk_at dksX0_namesLine_0 5 rfl rfl)
theorem dX0_namesLine_8 : decode cX0_namesLine 8 = .ok (.astore_n 2, 1) := dk_77 (dk_at dksX0_namesLine_0 8 rfl rfl)
theorem dX0_namesLine_9 : decode cX0_namesLine 9 = .ok (.iload_n 1, 1) := dk_27 (dk_at dksX0_namesLine_0 9 rfl rfl)
theorem dX0_namesLine_10 : decode cX0_namesLine 10 = .ok (.sipush 1000, 3) := dk_17 3 232 (dk_at dksX0_namesLine_0 10 rfl rfl)
theorem dX0_namesLine_13 : decode cX0_namesLine 13 = .ok (.if_icmp .lt 22, 3) := dk_161 0 22 (dk_at dksX0_namesLine_0 13 rfl rfl)
theorem dX0_namesLine_16 : decode cX0_namesLine 16 = .ok (.aload_n 2, 1) := dk_44 (dk_at dksX0_namesLine_0 16 rfl rfl)
theorem dX0_namesLine_17 : decode cX0_namesLine 17 = .ok (.invokevirtual 64, 3) := dk_182 0 64 (dk_at dksX0_namesLine_0 17 rfl rfl)
theorem dX0_namesLine_20 : decode cX0_namesLine 20 = .ok (.ifCond .ne 15, 3) := dk_154 0 15 (dk_at dksX0_namesLine_0 20 rfl rfl)
theorem dX0_namesLine_23 : decode cX0_namesLine 23 = .ok (.aload_n 2, 1) := dk_44 (dk_at dksX0_namesLine_0 23 rfl rfl)
theorem dX0_namesLine_24 : decode cX0_namesLine 24 = .ok (.aload_n 0, 1) := dk_42 (dk_at dksX0_namesLine_1 0 rfl rfl)
theorem dX0_namesLine_25 : decode cX0_namesLine 25 = .ok (.invokevirtual 61, 3) := dk_182 0 61 (dk_at dksX0_namesLine_1 1 rfl rfl)
theorem dX0_namesLine_28 : decode cX0_namesLine 28 = .ok (.ifCond .eq 7, 3) := dk_153 0 7 (dk_at dksX0_namesLine_1 4 rfl rfl)
theorem dX0_namesLine_31 : decode cX0_namesLine 31 = .ok (.iconst 1, 1) := dk_4 (dk_at dksX0_namesLine_1 7 rfl rfl)
theorem dX0_namesLine_32 : decode cX0_namesLine 32 = .ok (.goto 4, 3) := dk_167 0 4 (dk_at dksX0_namesLine_1 8 rfl rfl)
theorem dX0_namesLine_35 : decode cX0_namesLine 35 = .ok (.iconst 0, 1) := dk_3 (dk_at dksX0_namesLine_1 11 rfl rfl)
theorem dX0_namesLine_36 : decode cX0_namesLine 36 = .ok (.ireturn, 1) := dk_172 (dk_at dksX0_namesLine_1 12 rfl rfl)
abbrev cX0_latest : ByteArray := prog_1_method_27_code
def yX0_latest : MethodName := ⟨RX0, "latest", "(II)I"⟩
def dkwX0_latest_3 : List UInt8 := [192, 0, 110, 21, 4, 182, 0, 202, 164, 0, 7, 21, 5, 54, 4, 132, 5, 1, 167, 255, 188, 21, 4, 172]
abbrev dktX0_latest_3 : List UInt8 := dkwX0_latest_3 ++ []
def dkwX0_latest_2 : List UInt8 := [27, 182, 0, 106, 192, 0, 110, 21, 5, 182, 0, 202, 42, 180, 0, 38, 180, 0, 95, 27, 182, 0, 106]
abbrev dktX0_latest_2 : List UInt8 := dkwX0_latest_2 ++ dktX0_latest_3
def dkwX0_latest_1 : List UInt8 := [162, 0, 68, 29, 21, 5, 184, 0, 199, 153, 0, 53, 21, 4, 155, 0, 44, 42, 180, 0, 38, 180, 0, 95]
abbrev dktX0_latest_1 : List UInt8 := dkwX0_latest_1 ++ dktX0_latest_2
def dkwX0_latest_0 : List UInt8 := [42, 27, 28, 182, 0, 197, 62, 29, 156, 0, 5, 29, 172, 16, 251, 54, 4, 3, 54, 5, 21, 5, 8]
abbrev dktX0_latest_0 : List UInt8 := dkwX0_latest_0 ++ dktX0_latest_1
theorem dksX0_latest_0 : cX0_latest.data.toList.drop 0 = dktX0_latest_0 := by decide +kernel
theorem dksX0_latest_1 : cX0_latest.data.toList.drop 23 = dktX0_latest_1 := dk_seg dksX0_latest_0 23 rfl rfl
theorem dksX0_latest_2 : cX0_latest.data.toList.drop 47 = dktX0_latest_2 := dk_seg dksX0_latest_1 24 rfl rfl
theorem dksX0_latest_3 : cX0_latest.data.toList.drop 70 = dktX0_latest_3 := dk_seg dksX0_latest_2 23 rfl rfl
theorem dX0_latest_0 : decode cX0_latest 0 = .ok (.aload_n 0, 1) := dk_42 (dk_at dksX0_latest_0 0 rfl rfl)
theorem dX0_latest_1 : decode cX0_latest 1 = .ok (.iload_n 1, 1) := dk_27 (dk_at dksX0_latest_0 1 rfl rfl)
theorem dX0_latest_2 : decode cX0_latest 2 = .ok (.iload_n 2, 1) := dk_28 (dk_at dksX0_latest_0 2 rfl rfl)
theorem dX0_latest_3 : decode cX0_latest 3 = .ok (.invokevirtual 197, 3) := dk_182 0 197 (dk_at dksX0_latest_0 3 rfl rfl)
theorem dX0_latest_6 : decode cX0_latest 6 = .ok (.istore_n 3, 1) := dk_62 (dk_at dksX0_latest_0 6 rfl rfl)
theorem dX0_latest_7 : decode cX0_latest 7 = .ok (.iload_n 3, 1) := dk_29 (dk_at dksX0_latest_0 7 rfl rfl)
theorem dX0_latest_8 : decode cX0_latest 8 = .ok (.ifCond .ge 5, 3) := dk_156 0 5 (dk_at dksX0_latest_0 8 rfl rfl)
theorem dX0_latest_11 : decode cX0_latest 11 = .ok (.iload_n 3, 1) := dk_29 (dk_at dksX0_latest_0 11 rfl rfl)
theorem dX0_latest_12 : decode cX0_latest 12 = .ok (.ireturn, 1) := dk_172 (dk_at dksX0_latest_0 12 rfl rfl)
theorem dX0_latest_13 : decode cX0_latest 13 = .ok (.bipush (-5), 2) := dk_16 251 (dk_at dksX0_latest_0 13 rfl rfl)
theorem dX0_latest_15 : decode cX0_latest 15 = .ok (.istore 4, 2) := dk_54 4 (dk_at dksX0_latest_0 15 rfl rfl)
theorem dX0_latest_17 : decode cX0_latest 17 = .ok (.iconst 0, 1) := dk_3 (dk_at dksX0_latest_0 17 rfl rfl)
theorem dX0_latest_18 : decode cX0_latest 18 = .ok (.istore 5, 2) := dk_54 5 (dk_at dksX0_latest_0 18 rfl rfl)
theorem dX0_latest_20 : decode cX0_latest 20 = .ok (.iload 5, 2) := dk_21 5 (dk_at dksX0_latest_0 20 rfl rfl)
theorem dX0_latest_22 : decode cX0_latest 22 = .ok (.iconst 5, 1) := dk_8 (dk_at dksX0_latest_0 22 rfl rfl)
theorem dX0_latest_23 : decode cX0_latest 23 = .ok (.if_icmp .ge 68, 3) := dk_162 0 68 (dk_at dksX0_latest_1 0 rfl rfl)
theorem dX0_latest_26 : decode cX0_latest 26 = .ok (.iload_n 3, 1) := dk_29 (dk_at dksX0_latest_1 3 rfl rfl)
theorem dX0_latest_27 : decode cX0_latest 27 = .ok (.iload 5, 2) := dk_21 5 (dk_at dksX0_latest_1 4 rfl rfl)
theorem dX0_latest_29 : decode cX0_latest 29 = .ok (.invokestatic 199, 3) := dk_184 0 199 (dk_at dksX0_latest_1 6 rfl rfl)
theorem dX0_latest_32 : decode cX0_latest 32 = .ok (.ifCond .eq 53, 3) := dk_153 0 53 (dk_at dksX0_latest_1 9 rfl rfl)
theorem dX0_latest_35 : decode cX0_latest 35 = .ok (.iload 4, 2) := dk_21 4 (dk_at dksX0_latest_1 12 rfl rfl)
theorem dX0_latest_37 : decode cX0_latest 37 = .ok (.ifCond .lt 44, 3) := dk_155 0 44 (dk_at dksX0_latest_1 14 rfl rfl)
theorem dX0_latest_40 : decode cX0_latest 40 = .ok (.aload_n 0, 1) := dk_42 (dk_at dksX0_latest_1 17 rfl rfl)
theorem dX0_latest_41 : decode cX0_latest 41 = .ok (.getfield 38, 3) := dk_180 0 38 (dk_at dksX0_latest_1 18 rfl rfl)
theorem dX0_latest_44 : decode cX0_latest 44 = .ok (.getfield 95, 3) := dk_180 0 95 (dk_at dksX0_latest_1 21 rfl rfl)
theorem dX0_latest_47 : decode cX0_latest 47 = .ok (.iload_n 1, 1) := dk_27 (dk_at dksX0_latest_2 0 rfl rfl)
theorem dX0_latest_48 : decode cX0_latest 48 = .ok (.invokevirtual 106, 3) := dk_182 0 106 (dk_at dksX0_latest_2 1 rfl rfl)
theorem dX0_latest_51 : decode cX0_latest 51 = .ok (.checkcast 110, 3) := dk_192 0 110 (dk_at dksX0_latest_2 4 rfl rfl)
theorem dX0_latest_54 : decode cX0_latest 54 = .ok (.iload 5, 2) := dk_21 5 (dk_at dksX0_latest_2 7 rfl rfl)
theorem dX0_latest_56 : decode cX0_latest 56 = .ok (.invokevirtual 202, 3) := dk_182 0 202 (dk_at dksX0_latest_2 9 rfl rfl)
theorem dX0_latest_59 : decode cX0_latest 59 = .ok (.aload_n 0, 1) := dk_42 (dk_at dksX0_latest_2 12 rfl rfl)
theorem dX0_latest_60 : decode cX0_latest 60 = .ok (.getfield 38, 3) := dk_180 0 38 (dk_at dksX0_latest_2 13 rfl rfl)
theorem dX0_latest_63 : decode cX0_latest 63 = .ok (.getfield 95, 3) := dk_180 0 95 (dk_at dksX0_latest_2 16 rfl rfl)
theorem dX0_latest_66 : decode cX0_latest 66 = .ok (.iload_n 1, 1) := dk_27 (dk_at dksX0_latest_2 19 rfl rfl)
theorem dX0_latest_67 : decode cX0_latest 67 = .ok (.invokevirtual 106, 3) := dk_182 0 106 (dk_at dksX0_latest_2 20 rfl rfl)
theorem dX0_latest_70 : decode cX0_latest 70 = .ok (.checkcast 110, 3) := dk_192 0 110 (dk_at dksX0_latest_3 0 rfl rfl)
theorem dX0_latest_73 : decode cX0_latest 73 = .ok (.iload 4, 2) := dk_21 4 (dk_at dksX0_latest_3 3 rfl rfl)
theorem dX0_latest_75 : decode cX0_latest 75 = .ok (.invokevirtual 202, 3) := dk_182 0 202 (dk_at dksX0_latest_3 5 rfl rfl)
theorem dX0_latest_78 : decode cX0_latest 78 = .ok (.if_icmp .le 7, 3) := dk_164 0 7 (dk_at dksX0_latest_3 8 rfl rfl)
theorem dX0_latest_81 : decode cX0_latest 81 = .ok (.iload 5, 2) := dk_21 5 (dk_at dksX0_latest_3 11 rfl rfl)
theorem dX0_latest_83 : decode cX0_latest 83 = .ok (.istore 4, 2) := dk_54 4 (dk_at dksX0_latest_3 13 rfl rfl)
theorem dX0_latest_85 : decode cX0_latest 85 = .ok (.iinc 5 1, 3) := dk_132 5 1 (dk_at dksX0_latest_3 15 rfl rfl)
theorem dX0_latest_88 : decode cX0_latest 88 = .ok (.goto (-68), 3) := dk_167 255 188 (dk_at dksX0_latest_3 18 rfl rfl)
theorem dX0_latest_91 : decode cX0_latest 91 = .ok (.iload 4, 2) := dk_21 4 (dk_at dksX0_latest_3 21 rfl rfl)
theorem dX0_latest_93 : decode cX0_latest 93 = .ok (.ireturn, 1) := dk_172 (dk_at dksX0_latest_3 23 rfl rfl)
abbrev cX0_has : ByteArray := prog_1_method_4_code
def yX0_has : MethodName := ⟨RX0, "has", "(II)Z"⟩
def dkwX0_has_0 : List UInt8 := [26, 27, 122, 4, 126, 4, 160, 0, 7, 4, 167, 0, 4, 3, 172]
abbrev dktX0_has_0 : List UInt8 := dkwX0_has_0 ++ []
theorem dksX0_has_0 : cX0_has.data.toList.drop 0 = dktX0_has_0 := by decide +kernel
theorem dX0_has_0 : decode cX0_has 0 = .ok (.iload_n 0, 1) := dk_26 (dk_at dksX0_has_0 0 rfl rfl)
theorem dX0_has_1 : decode cX0_has 1 = .ok (.iload_n 1, 1) := dk_27 (dk_at dksX0_has_0 1 rfl rfl)
theorem dX0_has_2 : decode cX0_has 2 = .ok (.ishr, 1) := dk_122 (dk_at dksX0_has_0 2 rfl rfl)
theorem dX0_has_3 : decode cX0_has 3 = .ok (.iconst 1, 1) := dk_4 (dk_at dksX0_has_0 3 rfl rfl)
theorem dX0_has_4 : decode cX0_has 4 = .ok (.iand, 1) := dk_126 (dk_at dksX0_has_0 4 rfl rfl)
theorem dX0_has_5 : decode cX0_has 5 = .ok (.iconst 1, 1) := dk_4 (dk_at dksX0_has_0 5 rfl rfl)
theorem dX0_has_6 : decode cX0_has 6 = .ok (.if_icmp .ne 7, 3) := dk_160 0 7 (dk_at dksX0_has_0 6 rfl rfl)
theorem dX0_has_9 : decode cX0_has 9 = .ok (.iconst 1, 1) := dk_4 (dk_at dksX0_has_0 9 rfl rfl)
theorem dX0_has_10 : decode cX0_has 10 = .ok (.goto 4, 3) := dk_167 0 4 (dk_at dksX0_has_0 10 rfl rfl)
theorem dX0_has_13 : decode cX0_has 13 = .ok (.iconst 0, 1) := dk_3 (dk_at dksX0_has_0 13 rfl rfl)
theorem dX0_has_14 : decode cX0_has 14 = .ok (.ireturn, 1) := dk_172 (dk_at dksX0_has_0 14 rfl rfl)
abbrev cX0_want : ByteArray := prog_1_method_30_code
def yX0_want : MethodName := ⟨RX0, "want", "(II)I"⟩
def dkwX0_want_1 : List UInt8 := [183, 0, 213, 182, 0, 216, 172]
abbrev dktX0_want_1 : List UInt8 := dkwX0_want_1 ++ []
def dkwX0_want_0 : List UInt8 := [42, 27, 28, 182, 0, 208, 62, 29, 153, 0, 7, 29, 167, 0, 16, 42, 187, 0, 211, 89, 27, 28]
abbrev dktX0_want_0 : List UInt8 := dkwX0_want_0 ++ dktX0_want_1
theorem dksX0_want_0 : cX0_want.data.toList.drop 0 = dktX0_want_0 := by decide +kernel
theorem dksX0_want_1 : cX0_want.data.toList.drop 22 = dktX0_want_1 := dk_seg dksX0_want_0 22 rfl rfl
theorem dX0_want_0 : decode cX0_want 0 = .ok (.aload_n 0, 1) := dk_42 (dk_at dksX0_want_0 0 rfl rfl)
theorem dX0_want_1 : decode cX0_want 1 = .ok (.iload_n 1, 1) := dk_27 (dk_at dksX0_want_0 1 rfl rfl)
theorem dX0_want_2 : decode cX0_want 2 = .ok (.iload_n 2, 1) := dk_28 (dk_at dksX0_want_0 2 rfl rfl)
theorem dX0_want_3 : decode cX0_want 3 = .ok (.invokevirtual 208, 3) := dk_182 0 208 (dk_at dksX0_want_0 3 rfl rfl)
theorem dX0_want_6 : decode cX0_want 6 = .ok (.istore_n 3, 1) := dk_62 (dk_at dksX0_want_0 6 rfl rfl)
theorem dX0_want_7 : decode cX0_want 7 = .ok (.iload_n 3, 1) := dk_29 (dk_at dksX0_want_0 7 rfl rfl)
theorem dX0_want_8 : decode cX0_want 8 = .ok (.ifCond .eq 7, 3) := dk_153 0 7 (dk_at dksX0_want_0 8 rfl rfl)
theorem dX0_want_11 : decode cX0_want 11 = .ok (.iload_n 3, 1) := dk_29 (dk_at dksX0_want_0 11 rfl rfl)
theorem dX0_want_12 : decode cX0_want 12 = .ok (.goto 16, 3) := dk_167 0 16 (dk_at dksX0_want_0 12 rfl rfl)
theorem dX0_want_15 : decode cX0_want 15 = .ok (.aload_n 0, 1) := dk_42 (dk_at dksX0_want_0 15 rfl rfl)
theorem dX0_want_16 : decode cX0_want 16 = .ok (.new 211, 3) := dk_187 0 211 (dk_at dksX0_want_0 16 rfl rfl)
theorem dX0_want_19 : decode cX0_want 19 = .ok (.dup, 1) := dk_89 (dk_at dksX0_want_0 19 rfl rfl)
theorem dX0_want_20 : decode cX0_want 20 = .ok (.iload_n 1, 1) := dk_27 (dk_at dksX0_want_0 20 rfl rfl)
theorem dX0_want_21 : decode cX0_want 21 = .ok (.iload_n 2, 1) := dk_28 (dk_at dksX0_want_0 21 rfl rfl)
theorem dX0_want_22 : decode cX0_want 22 = .ok (.invokespecial 213, 3) := dk_183 0 213 (dk_at dksX0_want_1 0 rfl rfl)
theorem dX0_want_25 : decode cX0_want 25 = .ok (.invokevirtual 216, 3) := dk_182 0 216 (dk_at dksX0_want_1 3 rfl rfl)
theorem dX0_want_28 : decode cX0_want 28 = .ok (.ireturn, 1) := dk_172 (dk_at dksX0_want_1 6 rfl rfl)
abbrev cX0_whyNoWant : ByteArray := prog_1_method_29_code
def yX0_whyNoWant : MethodName := ⟨RX0, "whyNoWant", "(II)I"⟩
def dkwX0_whyNoWant_2 : List UInt8 := [184, 0, 152, 79, 184, 0, 139, 172]
abbrev dktX0_whyNoWant_2 : List UInt8 := dkwX0_whyNoWant_2 ++ []
def dkwX0_whyNoWant_1 : List UInt8 := [79, 89, 5, 42, 180, 0, 38, 180, 0, 68, 182, 0, 72, 16, 30, 162, 0, 7, 4, 167, 0, 4, 3]
abbrev dktX0_whyNoWant_1 : List UInt8 := dkwX0_whyNoWant_1 ++ dktX0_whyNoWant_2
def dkwX0_whyNoWant_0 : List UInt8 := [6, 188, 10, 89, 3, 42, 42, 27, 182, 0, 102, 182, 0, 128, 79, 89, 4, 28, 184, 0, 191, 184, 0, 136]
abbrev dktX0_whyNoWant_0 : List UInt8 := dkwX0_whyNoWant_0 ++ dktX0_whyNoWant_1
theorem dksX0_whyNoWant_0 : cX0_whyNoWant.data.toList.drop 0 = dktX0_whyNoWant_0 := by decide +kernel
theorem dksX0_whyNoWant_1 : cX0_whyNoWant.data.toList.drop 24 = dktX0_whyNoWant_1 := dk_seg dksX0_whyNoWant_0 24 rfl rfl
theorem dksX0_whyNoWant_2 : cX0_whyNoWant.data.toList.drop 47 = dktX0_whyNoWant_2 := dk_seg dksX0_whyNoWant_1 23 rfl rfl
theorem dX0_whyNoWant_0 : decode cX0_whyNoWant 0 = .ok (.iconst 3, 1) := dk_6 (dk_at dksX0_whyNoWant_0 0 rfl rfl)
theorem dX0_whyNoWant_1 : decode cX0_whyNoWant 1 = .ok (.newarray .int, 2) := dk_188_10 (dk_at dksX0_whyNoWant_0 1 rfl rfl)
theorem dX0_whyNoWant_3 : decode cX0_whyNoWant 3 = .ok (.dup, 1) := dk_89 (dk_at dksX0_whyNoWant_0 3 rfl rfl)
theorem dX0_whyNoWant_4 : decode cX0_whyNoWant 4 = .ok (.iconst 0, 1) := dk_3 (dk_at dksX0_whyNoWant_0 4 rfl rfl)
theorem dX0_whyNoWant_5 : decode cX0_whyNoWant 5 = .ok (.aload_n 0, 1) := dk_42 (dk_at dksX0_whyNoWant_0 5 rfl rfl)
theorem dX0_whyNoWant_6 : decode cX0_whyNoWant 6 = .ok (.aload_n 0, 1) := dk_42 (dk_at dksX0_whyNoWant_0 6 rfl rfl)
theorem dX0_whyNoWant_7 : decode cX0_whyNoWant 7 = .ok (.iload_n 1, 1) := dk_27 (dk_at dksX0_whyNoWant_0 7 rfl rfl)
theorem dX0_whyNoWant_8 : decode cX0_whyNoWant 8 = .ok (.invokevirtual 102, 3) := dk_182 0 102 (dk_at dksX0_whyNoWant_0 8 rfl rfl)
theorem dX0_whyNoWant_11 : decode cX0_whyNoWant 11 = .ok (.invokevirtual 128, 3) := dk_182 0 128 (dk_at dksX0_whyNoWant_0 11 rfl rfl)
theorem dX0_whyNoWant_14 : decode cX0_whyNoWant 14 = .ok (.iastore, 1) := dk_79 (dk_at dksX0_whyNoWant_0 14 rfl rfl)
theorem dX0_whyNoWant_15 : decode cX0_whyNoWant 15 = .ok (.dup, 1) := dk_89 (dk_at dksX0_whyNoWant_0 15 rfl rfl)
theorem dX0_whyNoWant_16 : decode cX0_whyNoWant 16 = .ok (.iconst 1, 1) := dk_4 (dk_at dksX0_whyNoWant_0 16 rfl rfl)
theorem dX0_whyNoWant_17 : decode cX0_whyNoWant 17 = .ok (.iload_n 2, 1) := dk_28 (dk_at dksX0_whyNoWant_0 17 rfl rfl)
theorem dX0_whyNoWant_18 : decode cX0_whyNoWant 18 = .ok (.invokestatic 191, 3) := dk_184 0 191 (dk_at dksX0_whyNoWant_0 18 rfl rfl)
theorem dX0_whyNoWant_21 : decode cX0_whyNoWant 21 = .ok (.invokestatic 136, 3) := dk_184 0 136 (dk_at dksX0_whyNoWant_0 21 rfl rfl)
theorem dX0_whyNoWant_24 : decode cX0_whyNoWant 24 = .ok (.iastore, 1) := dk_79 (dk_at dksX0_whyNoWant_1 0 rfl rfl)
theorem dX0_whyNoWant_25 : decode cX0_whyNoWant 25 = .ok (.dup, 1) := dk_89 (dk_at dksX0_whyNoWant_1 1 rfl rfl)
theorem dX0_whyNoWant_26 : decode cX0_whyNoWant 26 = .ok (.iconst 2, 1) := dk_5 (dk_at dksX0_whyNoWant_1 2 rfl rfl)
theorem dX0_whyNoWant_27 : decode cX0_whyNoWant 27 = .ok (.aload_n 0, 1) := dk_42 (dk_at dksX0_whyNoWant_1 3 rfl rfl)
theorem dX0_whyNoWant_28 : decode cX0_whyNoWant 28 = .ok (.getfield 38, 3) := dk_180 0 38 (dk_at dksX0_whyNoWant_1 4 rfl rfl)
theorem dX0_whyNoWant_31 : decode cX0_whyNoWant 31 = .ok (.getfield 68, 3) := dk_180 0 68 (dk_at dksX0_whyNoWant_1 7 rfl rfl)
theorem dX0_whyNoWant_34 : decode cX0_whyNoWant 34 = .ok (.invokevirtual 72, 3) := dk_182 0 72 (dk_at dksX0_whyNoWant_1 10 rfl rfl)
theorem dX0_whyNoWant_37 : decode cX0_whyNoWant 37 = .ok (.bipush 30, 2) := dk_16 30 (dk_at dksX0_whyNoWant_1 13 rfl rfl)
theorem dX0_whyNoWant_39 : decode cX0_whyNoWant 39 = .ok (.if_icmp .ge 7, 3) := dk_162 0 7 (dk_at dksX0_whyNoWant_1 15 rfl rfl)
theorem dX0_whyNoWant_42 : decode cX0_whyNoWant 42 = .ok (.iconst 1, 1) := dk_4 (dk_at dksX0_whyNoWant_1 18 rfl rfl)
theorem dX0_whyNoWant_43 : decode cX0_whyNoWant 43 = .ok (.goto 4, 3) := dk_167 0 4 (dk_at dksX0_whyNoWant_1 19 rfl rfl)
theorem dX0_whyNoWant_46 : decode cX0_whyNoWant 46 = .ok (.iconst 0, 1) := dk_3 (dk_at dksX0_whyNoWant_1 22 rfl rfl)
theorem dX0_whyNoWant_47 : decode cX0_whyNoWant 47 = .ok (.invokestatic 152, 3) := dk_184 0 152 (dk_at dksX0_whyNoWant_2 0 rfl rfl)
theorem dX0_whyNoWant_50 : decode cX0_whyNoWant 50 = .ok (.iastore, 1) := dk_79 (dk_at dksX0_whyNoWant_2 3 rfl rfl)
theorem dX0_whyNoWant_51 : decode cX0_whyNoWant 51 = .ok (.invokestatic 139, 3) := dk_184 0 139 (dk_at dksX0_whyNoWant_2 4 rfl rfl)
theorem dX0_whyNoWant_54 : decode cX0_whyNoWant 54 = .ok (.ireturn, 1) := dk_172 (dk_at dksX0_whyNoWant_2 7 rfl rfl)
abbrev cX0_added : ByteArray := prog_1_method_28_code
def yX0_added : MethodName := ⟨RX0, "added", "(LVersionSolver$Rule;)I"⟩
def dkwX0_added_0 : List UInt8 := [42, 180, 0, 38, 182, 0, 115, 77, 42, 44, 42, 180, 0, 38, 43, 182, 0, 205, 182, 0, 124, 172]
abbrev dktX0_added_0 : List UInt8 := dkwX0_added_0 ++ []
theorem dksX0_added_0 : cX0_added.data.toList.drop 0 = dktX0_added_0 := by decide +kernel
theorem dX0_added_0 : decode cX0_added 0 = .ok (.aload_n 0, 1) := dk_42 (dk_at dksX0_added_0 0 rfl rfl)
theorem dX0_added_1 : decode cX0_added 1 = .ok (.getfield 38, 3) := dk_180 0 38 (dk_at dksX0_added_0 1 rfl rfl)
theorem dX0_added_4 : decode cX0_added 4 = .ok (.invokevirtual 115, 3) := dk_182 0 115 (dk_at dksX0_added_0 4 rfl rfl)
theorem dX0_added_7 : decode cX0_added 7 = .ok (.astore_n 2, 1) := dk_77 (dk_at dksX0_added_0 7 rfl rfl)
theorem dX0_added_8 : decode cX0_added 8 = .ok (.aload_n 0, 1) := dk_42 (dk_at dksX0_added_0 8 rfl rfl)
theorem dX0_added_9 : decode cX0_added 9 = .ok (.aload_n 2, 1) := dk_44 (dk_at dksX0_added_0 9 rfl rfl)
theorem dX0_added_10 : decode cX0_added 10 = .ok (.aload_n 0, 1) := dk_42 (dk_at dksX0_added_0 10 rfl rfl)
theorem dX0_added_11 : decode cX0_added 11 = .ok (.getfield 38, 3) := dk_180 0 38 (dk_at dksX0_added_0 11 rfl rfl)
theorem dX0_added_14 : decode cX0_added 14 = .ok (.aload_n 1, 1) := dk_43 (dk_at dksX0_added_0 14 rfl rfl)
theorem dX0_added_15 : decode cX0_added 15 = .ok (.invokevirtual 205, 3) := dk_182 0 205 (dk_at dksX0_added_0 15 rfl rfl)
theorem dX0_added_18 : decode cX0_added 18 = .ok (.invokevirtual 124, 3) := dk_182 0 124 (dk_at dksX0_added_0 18 rfl rfl)
theorem dX0_added_21 : decode cX0_added 21 = .ok (.ireturn, 1) := dk_172 (dk_at dksX0_added_0 21 rfl rfl)
abbrev cX0_need : ByteArray := prog_1_method_32_code
def yX0_need : MethodName := ⟨RX0, "need", "(IIII)I"⟩
def dkwX0_need_1 : List UInt8 := [187, 0, 223, 89, 27, 28, 29, 21, 4, 183, 0, 225, 182, 0, 216, 172]
abbrev dktX0_need_1 : List UInt8 := dkwX0_need_1 ++ []
def dkwX0_need_0 : List UInt8 := [42, 27, 28, 29, 21, 4, 182, 0, 219, 54, 5, 21, 5, 153, 0, 8, 21, 5, 167, 0, 19, 42]
abbrev dktX0_need_0 : List UInt8 := dkwX0_need_0 ++ dktX0_need_1
theorem dksX0_need_0 : cX0_need.data.toList.drop 0 = dktX0_need_0 := by decide +kernel
theorem dksX0_need_1 : cX0_need.data.toList.drop 22 = dktX0_need_1 := dk_seg dksX0_need_0 22 rfl rfl
theorem dX0_need_0 : decode cX0_need 0 = .ok (.aload_n 0, 1) := dk_42 (dk_at dksX0_need_0 0 rfl rfl)
theorem dX0_need_1 : decode cX0_need 1 = .ok (.iload_n 1, 1) := dk_27 (dk_at dksX0_need_0 1 rfl rfl)
theorem dX0_need_2 : decode cX0_need 2 = .ok (.iload_n 2, 1) := dk_28 (dk_at dksX0_need_0 2 rfl rfl)
theorem dX0_need_3 : decode cX0_need 3 = .ok (.iload_n 3, 1) := dk_29 (dk_at dksX0_need_0 3 rfl rfl)
theorem dX0_need_4 : decode cX0_need 4 = .ok (.iload 4, 2) := dk_21 4 (dk_at dksX0_need_0 4 rfl rfl)
theorem dX0_need_6 : decode cX0_need 6 = .ok (.invokevirtual 219, 3) := dk_182 0 219 (dk_at dksX0_need_0 6 rfl rfl)
theorem dX0_need_9 : decode cX0_need 9 = .ok (.istore 5, 2) := dk_54 5 (dk_at dksX0_need_0 9 rfl rfl)
theorem dX0_need_11 : decode cX0_need 11 = .ok (.iload 5, 2) := dk_21 5 (dk_at dksX0_need_0 11 rfl rfl)
theorem dX0_need_13 : decode cX0_need 13 = .ok (.ifCond .eq 8, 3) := dk_153 0 8 (dk_at dksX0_need_0 13 rfl rfl)
theorem dX0_need_16 : decode cX0_need 16 = .ok (.iload 5, 2) := dk_21 5 (dk_at dksX0_need_0 16 rfl rfl)
theorem dX0_need_18 : decode cX0_need 18 = .ok (.goto 19, 3) := dk_167 0 19 (dk_at dksX0_need_0 18 rfl rfl)
theorem dX0_need_21 : decode cX0_need 21 = .ok (.aload_n 0, 1) := dk_42 (dk_at dksX0_need_0 21 rfl rfl)
theorem dX0_need_22 : decode cX0_need 22 = .ok (.new 223, 3) := dk_187 0 223 (dk_at dksX0_need_1 0 rfl rfl)
theorem dX0_need_25 : decode cX0_need 25 = .ok (.dup, 1) := dk_89 (dk_at dksX0_need_1 3 rfl rfl)
theorem dX0_need_26 : decode cX0_need 26 = .ok (.iload_n 1, 1) := dk_27 (dk_at dksX0_need_1 4 rfl rfl)
theorem dX0_need_27 : decode cX0_need 27 = .ok (.iload_n 2, 1) := dk_28 (dk_at dksX0_need_1 5 rfl rfl)
theorem dX0_need_28 : decode cX0_need 28 = .ok (.iload_n 3, 1) := dk_29 (dk_at dksX0_need_1 6 rfl rfl)
theorem dX0_need_29 : decode cX0_need 29 = .ok (.iload 4, 2) := dk_21 4 (dk_at dksX0_need_1 7 rfl rfl)
theorem dX0_need_31 : decode cX0_need 31 = .ok (.invokespecial 225, 3) := dk_183 0 225 (dk_at dksX0_need_1 9 rfl rfl)
theorem dX0_need_34 : decode cX0_need 34 = .ok (.invokevirtual 216, 3) := dk_182 0 216 (dk_at dksX0_need_1 12 rfl rfl)
theorem dX0_need_37 : decode cX0_need 37 = .ok (.ireturn, 1) := dk_172 (dk_at dksX0_need_1 15 rfl rfl)
abbrev cX0_whyNoTie : ByteArray := prog_1_method_31_code
def yX0_whyNoTie : MethodName := ⟨RX0, "whyNoTie", "(IIII)I"⟩
def dkwX0_whyNoTie_3 : List UInt8 := [162, 0, 7, 4, 167, 0, 4, 3, 184, 0, 152, 79, 184, 0, 139, 172]
abbrev dktX0_whyNoTie_3 : List UInt8 := dkwX0_whyNoTie_3 ++ []
def dkwX0_whyNoTie_2 : List UInt8 := [167, 0, 4, 3, 184, 0, 136, 79, 89, 5, 42, 180, 0, 38, 180, 0, 68, 182, 0, 72, 16, 30]
abbrev dktX0_whyNoTie_2 : List UInt8 := dkwX0_whyNoTie_2 ++ dktX0_whyNoTie_3
def dkwX0_whyNoTie_1 : List UInt8 := [167, 0, 4, 3, 182, 0, 128, 79, 89, 4, 27, 29, 159, 0, 15, 21, 4, 184, 0, 191, 153, 0, 7, 4]
abbrev dktX0_whyNoTie_1 : List UInt8 := dkwX0_whyNoTie_1 ++ dktX0_whyNoTie_2
def dkwX0_whyNoTie_0 : List UInt8 := [6, 188, 10, 89, 3, 42, 42, 27, 28, 182, 0, 177, 153, 0, 15, 42, 29, 182, 0, 102, 153, 0, 7, 4]
abbrev dktX0_whyNoTie_0 : List UInt8 := dkwX0_whyNoTie_0 ++ dktX0_whyNoTie_1
theorem dksX0_whyNoTie_0 : cX0_whyNoTie.data.toList.drop 0 = dktX0_whyNoTie_0 := by decide +kernel
theorem dksX0_whyNoTie_1 : cX0_whyNoTie.data.toList.drop 24 = dktX0_whyNoTie_1 := dk_seg dksX0_whyNoTie_0 24 rfl rfl
theorem dksX0_whyNoTie_2 : cX0_whyNoTie.data.toList.drop 48 = dktX0_whyNoTie_2 := dk_seg dksX0_whyNoTie_1 24 rfl rfl
theorem dksX0_whyNoTie_3 : cX0_whyNoTie.data.toList.drop 70 = dktX0_whyNoTie_3 := dk_seg dksX0_whyNoTie_2 22 rfl rfl
theorem dX0_whyNoTie_0 : decode cX0_whyNoTie 0 = .ok (.iconst 3, 1) := dk_6 (dk_at dksX0_whyNoTie_0 0 rfl rfl)
theorem dX0_whyNoTie_1 : decode cX0_whyNoTie 1 = .ok (.newarray .int, 2) := dk_188_10 (dk_at dksX0_whyNoTie_0 1 rfl rfl)
theorem dX0_whyNoTie_3 : decode cX0_whyNoTie 3 = .ok (.dup, 1) := dk_89 (dk_at dksX0_whyNoTie_0 3 rfl rfl)
theorem dX0_whyNoTie_4 : decode cX0_whyNoTie 4 = .ok (.iconst 0, 1) := dk_3 (dk_at dksX0_whyNoTie_0 4 rfl rfl)
theorem dX0_whyNoTie_5 : decode cX0_whyNoTie 5 = .ok (.aload_n 0, 1) := dk_42 (dk_at dksX0_whyNoTie_0 5 rfl rfl)
theorem dX0_whyNoTie_6 : decode cX0_whyNoTie 6 = .ok (.aload_n 0, 1) := dk_42 (dk_at dksX0_whyNoTie_0 6 rfl rfl)
theorem dX0_whyNoTie_7 : decode cX0_whyNoTie 7 = .ok (.iload_n 1, 1) := dk_27 (dk_at dksX0_whyNoTie_0 7 rfl rfl)
theorem dX0_whyNoTie_8 : decode cX0_whyNoTie 8 = .ok (.iload_n 2, 1) := dk_28 (dk_at dksX0_whyNoTie_0 8 rfl rfl)
theorem dX0_whyNoTie_9 : decode cX0_whyNoTie 9 = .ok (.invokevirtual 177, 3) := dk_182 0 177 (dk_at dksX0_whyNoTie_0 9 rfl rfl)
theorem dX0_whyNoTie_12 : decode cX0_whyNoTie 12 = .ok (.ifCond .eq 15, 3) := dk_153 0 15 (dk_at dksX0_whyNoTie_0 12 rfl rfl)
theorem dX0_whyNoTie_15 : decode cX0_whyNoTie 15 = .ok (.aload_n 0, 1) := dk_42 (dk_at dksX0_whyNoTie_0 15 rfl rfl)
theorem dX0_whyNoTie_16 : decode cX0_whyNoTie 16 = .ok (.iload_n 3, 1) := dk_29 (dk_at dksX0_whyNoTie_0 16 rfl rfl)
theorem dX0_whyNoTie_17 : decode cX0_whyNoTie 17 = .ok (.invokevirtual 102, 3) := dk_182 0 102 (dk_at dksX0_whyNoTie_0 17 rfl rfl)
theorem dX0_whyNoTie_20 : decode cX0_whyNoTie 20 = .ok (.ifCond .eq 7, 3) := dk_153 0 7 (dk_at dksX0_whyNoTie_0 20 rfl rfl)
theorem dX0_whyNoTie_23 : decode cX0_whyNoTie 23 = .ok (.iconst 1, 1) := dk_4 (dk_at dksX0_whyNoTie_0 23 rfl rfl)
theorem dX0_whyNoTie_24 : decode cX0_whyNoTie 24 = .ok (.goto 4, 3) := dk_167 0 4 (dk_at dksX0_whyNoTie_1 0 rfl rfl)
theorem dX0_whyNoTie_27 : decode cX0_whyNoTie 27 = .ok (.iconst 0, 1) := dk_3 (dk_at dksX0_whyNoTie_1 3 rfl rfl)
theorem dX0_whyNoTie_28 : decode cX0_whyNoTie 28 = .ok (.invokevirtual 128, 3) := dk_182 0 128 (dk_at dksX0_whyNoTie_1 4 rfl rfl)
theorem dX0_whyNoTie_31 : decode cX0_whyNoTie 31 = .ok (.iastore, 1) := dk_79 (dk_at dksX0_whyNoTie_1 7 rfl rfl)
theorem dX0_whyNoTie_32 : decode cX0_whyNoTie 32 = .ok (.dup, 1) := dk_89 (dk_at dksX0_whyNoTie_1 8 rfl rfl)
theorem dX0_whyNoTie_33 : decode cX0_whyNoTie 33 = .ok (.iconst 1, 1) := dk_4 (dk_at dksX0_whyNoTie_1 9 rfl rfl)
theorem dX0_whyNoTie_34 : decode cX0_whyNoTie 34 = .ok (.iload_n 1, 1) := dk_27 (dk_at dksX0_whyNoTie_1 10 rfl rfl)
theorem dX0_whyNoTie_35 : decode cX0_whyNoTie 35 = .ok (.iload_n 3, 1) := dk_29 (dk_at dksX0_whyNoTie_1 11 rfl rfl)
theorem dX0_whyNoTie_36 : decode cX0_whyNoTie 36 = .ok (.if_icmp .eq 15, 3) := dk_159 0 15 (dk_at dksX0_whyNoTie_1 12 rfl rfl)
theorem dX0_whyNoTie_39 : decode cX0_whyNoTie 39 = .ok (.iload 4, 2) := dk_21 4 (dk_at dksX0_whyNoTie_1 15 rfl rfl)
theorem dX0_whyNoTie_41 : decode cX0_whyNoTie 41 = .ok (.invokestatic 191, 3) := dk_184 0 191 (dk_at dksX0_whyNoTie_1 17 rfl rfl)
theorem dX0_whyNoTie_44 : decode cX0_whyNoTie 44 = .ok (.ifCond .eq 7, 3) := dk_153 0 7 (dk_at dksX0_whyNoTie_1 20 rfl rfl)
theorem dX0_whyNoTie_47 : decode cX0_whyNoTie 47 = .ok (.iconst 1, 1) := dk_4 (dk_at dksX0_whyNoTie_1 23 rfl rfl)
theorem dX0_whyNoTie_48 : decode cX0_whyNoTie 48 = .ok (.goto 4, 3) := dk_167 0 4 (dk_at dksX0_whyNoTie_2 0 rfl rfl)
theorem dX0_whyNoTie_51 : decode cX0_whyNoTie 51 = .ok (.iconst 0, 1) := dk_3 (dk_at dksX0_whyNoTie_2 3 rfl rfl)
theorem dX0_whyNoTie_52 : decode cX0_whyNoTie 52 = .ok (.invokestatic 136, 3) := dk_184 0 136 (dk_at dksX0_whyNoTie_2 4 rfl rfl)
theorem dX0_whyNoTie_55 : decode cX0_whyNoTie 55 = .ok (.iastore, 1) := dk_79 (dk_at dksX0_whyNoTie_2 7 rfl rfl)
theorem dX0_whyNoTie_56 : decode cX0_whyNoTie 56 = .ok (.dup, 1) := dk_89 (dk_at dksX0_whyNoTie_2 8 rfl rfl)
theorem dX0_whyNoTie_57 : decode cX0_whyNoTie 57 = .ok (.iconst 2, 1) := dk_5 (dk_at dksX0_whyNoTie_2 9 rfl rfl)
theorem dX0_whyNoTie_58 : decode cX0_whyNoTie 58 = .ok (.aload_n 0, 1) := dk_42 (dk_at dksX0_whyNoTie_2 10 rfl rfl)
theorem dX0_whyNoTie_59 : decode cX0_whyNoTie 59 = .ok (.getfield 38, 3) := dk_180 0 38 (dk_at dksX0_whyNoTie_2 11 rfl rfl)
theorem dX0_whyNoTie_62 : decode cX0_whyNoTie 62 = .ok (.getfield 68, 3) := dk_180 0 68 (dk_at dksX0_whyNoTie_2 14 rfl rfl)
theorem dX0_whyNoTie_65 : decode cX0_whyNoTie 65 = .ok (.invokevirtual 72, 3) := dk_182 0 72 (dk_at dksX0_whyNoTie_2 17 rfl rfl)
theorem dX0_whyNoTie_68 : decode cX0_whyNoTie 68 = .ok (.bipush 30, 2) := dk_16 30 (dk_at dksX0_whyNoTie_2 20 rfl rfl)
theorem dX0_whyNoTie_70 : decode cX0_whyNoTie 70 = .ok (.if_icmp .ge 7, 3) := dk_162 0 7 (dk_at dksX0_whyNoTie_3 0 rfl rfl)
theorem dX0_whyNoTie_73 : decode cX0_whyNoTie 73 = .ok (.iconst 1, 1) := dk_4 (dk_at dksX0_whyNoTie_3 3 rfl rfl)
theorem dX0_whyNoTie_74 : decode cX0_whyNoTie 74 = .ok (.goto 4, 3) := dk_167 0 4 (dk_at dksX0_whyNoTie_3 4 rfl rfl)
theorem dX0_whyNoTie_77 : decode cX0_whyNoTie 77 = .ok (.iconst 0, 1) := dk_3 (dk_at dksX0_whyNoTie_3 7 rfl rfl)
theorem dX0_whyNoTie_78 : decode cX0_whyNoTie 78 = .ok (.invokestatic 152, 3) := dk_184 0 152 (dk_at dksX0_whyNoTie_3 8 rfl rfl)
theorem dX0_whyNoTie_81 : decode cX0_whyNoTie 81 = .ok (.iastore, 1) := dk_79 (dk_at dksX0_whyNoTie_3 11 rfl rfl)
theorem dX0_whyNoTie_82 : decode cX0_whyNoTie 82 = .ok (.invokestatic 139, 3) := dk_184 0 139 (dk_at dksX0_whyNoTie_3 12 rfl rfl)
theorem dX0_whyNoTie_85 : decode cX0_whyNoTie 85 = .ok (.ireturn, 1) := dk_172 (dk_at dksX0_whyNoTie_3 15 rfl rfl)
abbrev cX0_bar : ByteArray := prog_1_method_33_code
def yX0_bar : MethodName := ⟨RX0, "bar", "(IIII)I"⟩
def dkwX0_bar_1 : List UInt8 := [187, 0, 228, 89, 27, 28, 29, 21, 4, 183, 0, 230, 182, 0, 216, 172]
abbrev dktX0_bar_1 : List UInt8 := dkwX0_bar_1 ++ []
def dkwX0_bar_0 : List UInt8 := [42, 27, 28, 29, 21, 4, 182, 0, 219, 54, 5, 21, 5, 153, 0, 8, 21, 5, 167, 0, 19, 42]
abbrev dktX0_bar_0 : List UInt8 := dkwX0_bar_0 ++ dktX0_bar_1
theorem dksX0_bar_0 : cX0_bar.data.toList.drop 0 = dktX0_bar_0 := by decide +kernel
theorem dksX0_bar_1 : cX0_bar.data.toList.drop 22 = dktX0_bar_1 := dk_seg dksX0_bar_0 22 rfl rfl
theorem dX0_bar_0 : decode cX0_bar 0 = .ok (.aload_n 0, 1) := dk_42 (dk_at dksX0_bar_0 0 rfl rfl)
theorem dX0_bar_1 : decode cX0_bar 1 = .ok (.iload_n 1, 1) := dk_27 (dk_at dksX0_bar_0 1 rfl rfl)
theorem dX0_bar_2 : decode cX0_bar 2 = .ok (.iload_n 2, 1) := dk_28 (dk_at dksX0_bar_0 2 rfl rfl)
theorem dX0_bar_3 : decode cX0_bar 3 = .ok (.iload_n 3, 1) := dk_29 (dk_at dksX0_bar_0 3 rfl rfl)
theorem dX0_bar_4 : decode cX0_bar 4 = .ok (.iload 4, 2) := dk_21 4 (dk_at dksX0_bar_0 4 rfl rfl)
theorem dX0_bar_6 : decode cX0_bar 6 = .ok (.invokevirtual 219, 3) := dk_182 0 219 (dk_at dksX0_bar_0 6 rfl rfl)
theorem dX0_bar_9 : decode cX0_bar 9 = .ok (.istore 5, 2) := dk_54 5 (dk_at dksX0_bar_0 9 rfl rfl)
theorem dX0_bar_11 : decode cX0_bar 11 = .ok (.iload 5, 2) := dk_21 5 (dk_at dksX0_bar_0 11 rfl rfl)
theorem dX0_bar_13 : decode cX0_bar 13 = .ok (.ifCond .eq 8, 3) := dk_153 0 8 (dk_at dksX0_bar_0 13 rfl rfl)
theorem dX0_bar_16 : decode cX0_bar 16 = .ok (.iload 5, 2) := dk_21 5 (dk_at dksX0_bar_0 16 rfl rfl)
theorem dX0_bar_18 : decode cX0_bar 18 = .ok (.goto 19, 3) := dk_167 0 19 (dk_at dksX0_bar_0 18 rfl rfl)
theorem dX0_bar_21 : decode cX0_bar 21 = .ok (.aload_n 0, 1) := dk_42 (dk_at dksX0_bar_0 21 rfl rfl)
theorem dX0_bar_22 : decode cX0_bar 22 = .ok (.new 228, 3) := dk_187 0 228 (dk_at dksX0_bar_1 0 rfl rfl)
theorem dX0_bar_25 : decode cX0_bar 25 = .ok (.dup, 1) := dk_89 (dk_at dksX0_bar_1 3 rfl rfl)
theorem dX0_bar_26 : decode cX0_bar 26 = .ok (.iload_n 1, 1) := dk_27 (dk_at dksX0_bar_1 4 rfl rfl)
theorem dX0_bar_27 : decode cX0_bar 27 = .ok (.iload_n 2, 1) := dk_28 (dk_at dksX0_bar_1 5 rfl rfl)
theorem dX0_bar_28 : decode cX0_bar 28 = .ok (.iload_n 3, 1) := dk_29 (dk_at dksX0_bar_1 6 rfl rfl)
theorem dX0_bar_29 : decode cX0_bar 29 = .ok (.iload 4, 2) := dk_21 4 (dk_at dksX0_bar_1 7 rfl rfl)
theorem dX0_bar_31 : decode cX0_bar 31 = .ok (.invokespecial 230, 3) := dk_183 0 230 (dk_at dksX0_bar_1 9 rfl rfl)
theorem dX0_bar_34 : decode cX0_bar 34 = .ok (.invokevirtual 216, 3) := dk_182 0 216 (dk_at dksX0_bar_1 12 rfl rfl)
theorem dX0_bar_37 : decode cX0_bar 37 = .ok (.ireturn, 1) := dk_172 (dk_at dksX0_bar_1 15 rfl rfl)
abbrev cX0_drop : ByteArray := prog_1_method_34_code
def yX0_drop : MethodName := ⟨RX0, "drop", "()I"⟩
def dkwX0_drop_2 : List UInt8 := [43, 42, 180, 0, 38, 180, 0, 68, 182, 0, 72, 182, 0, 124, 172]
abbrev dktX0_drop_2 : List UInt8 := dkwX0_drop_2 ++ []
def dkwX0_drop_1 : List UInt8 := [42, 180, 0, 38, 180, 0, 68, 42, 180, 0, 38, 180, 0, 68, 182, 0, 72, 4, 100, 182, 0, 234, 87, 42]
abbrev dktX0_drop_1 : List UInt8 := dkwX0_drop_1 ++ dktX0_drop_2
def dkwX0_drop_0 : List UInt8 := [42, 180, 0, 38, 180, 0, 68, 182, 0, 231, 153, 0, 6, 16, 253, 172, 42, 180, 0, 38, 182, 0, 115, 76]
abbrev dktX0_drop_0 : List UInt8 := dkwX0_drop_0 ++ dktX0_drop_1
theorem dksX0_drop_0 : cX0_drop.data.toList.drop 0 = dktX0_drop_0 := by decide +kernel
theorem dksX0_drop_1 : cX0_drop.data.toList.drop 24 = dktX0_drop_1 := dk_seg dksX0_drop_0 24 rfl rfl
theorem dksX0_drop_2 : cX0_drop.data.toList.drop 48 = dktX0_drop_2 := dk_seg dksX0_drop_1 24 rfl rfl
theorem dX0_drop_0 : decode cX0_drop 0 = .ok (.aload_n 0, 1) := dk_42 (dk_at dksX0_drop_0 0 rfl rfl)
theorem dX0_drop_1 : decode cX0_drop 1 = .ok (.getfield 38, 3) := dk_180 0 38 (dk_at dksX0_drop_0 1 rfl rfl)
theorem dX0_drop_4 : decode cX0_drop 4 = .ok (.getfield 68, 3) := dk_180 0 68 (dk_at dksX0_drop_0 4 rfl rfl)
theorem dX0_drop_7 : decode cX0_drop 7 = .ok (.invokevirtual 231, 3) := dk_182 0 231 (dk_at dksX0_drop_0 7 rfl rfl)
theorem dX0_drop_10 : decode cX0_drop 10 = .ok (.ifCond .eq 6, 3) := dk_153 0 6 (dk_at dksX0_drop_0 10 rfl rfl)
theorem dX0_drop_13 : decode cX0_drop 13 = .ok (.bipush (-3), 2) := dk_16 253 (dk_at dksX0_drop_0 13 rfl rfl)
theorem dX0_drop_15 : decode cX0_drop 15 = .ok (.ireturn, 1) := dk_172 (dk_at dksX0_drop_0 15 rfl rfl)
theorem dX0_drop_16 : decode cX0_drop 16 = .ok (.aload_n 0, 1) := dk_42 (dk_at dksX0_drop_0 16 rfl rfl)
theorem dX0_drop_17 : decode cX0_drop 17 = .ok (.getfield 38, 3) := dk_180 0 38 (dk_at dksX0_drop_0 17 rfl rfl)
theorem dX0_drop_20 : decode cX0_drop 20 = .ok (.invokevirtual 115, 3) := dk_182 0 115 (dk_at dksX0_drop_0 20 rfl rfl)
theorem dX0_drop_23 : decode cX0_drop 23 = .ok (.astore_n 1, 1) := dk_76 (dk_at dksX0_drop_0 23 rfl rfl)
theorem dX0_drop_24 : decode cX0_drop 24 = .ok (.aload_n 0, 1) := dk_42 (dk_at dksX0_drop_1 0 rfl rfl)
theorem dX0_drop_25 : decode cX0_drop 25 = .ok (.getfield 38, 3) := dk_180 0 38 (dk_at dksX0_drop_1 1 rfl rfl)
theorem dX0_drop_28 : decode cX0_drop 28 = .ok (.getfield 68, 3) := dk_180 0 68 (dk_at dksX0_drop_1 4 rfl rfl)
theorem dX0_drop_31 : decode cX0_drop 31 = .ok (.aload_n 0, 1) := dk_42 (dk_at dksX0_drop_1 7 rfl rfl)
theorem dX0_drop_32 : decode cX0_drop 32 = .ok (.getfield 38, 3) := dk_180 0 38 (dk_at dksX0_drop_1 8 rfl rfl)
theorem dX0_drop_35 : decode cX0_drop 35 = .ok (.getfield 68, 3) := dk_180 0 68 (dk_at dksX0_drop_1 11 rfl rfl)
theorem dX0_drop_38 : decode cX0_drop 38 = .ok (.invokevirtual 72, 3) := dk_182 0 72 (dk_at dksX0_drop_1 14 rfl rfl)
theorem dX0_drop_41 : decode cX0_drop 41 = .ok (.iconst 1, 1) := dk_4 (dk_at dksX0_drop_1 17 rfl rfl)
theorem dX0_drop_42 : decode cX0_drop 42 = .ok (.isub, 1) := dk_100 (dk_at dksX0_drop_1 18 rfl rfl)
theorem dX0_drop_43 : decode cX0_drop 43 = .ok (.invokevirtual 234, 3) := dk_182 0 234 (dk_at dksX0_drop_1 19 rfl rfl)
theorem dX0_drop_46 : decode cX0_drop 46 = .ok (.pop, 1) := dk_87 (dk_at dksX0_drop_1 22 rfl rfl)
theorem dX0_drop_47 : decode cX0_drop 47 = .ok (.aload_n 0, 1) := dk_42 (dk_at dksX0_drop_1 23 rfl rfl)
theorem dX0_drop_48 : decode cX0_drop 48 = .ok (.aload_n 1, 1) := dk_43 (dk_at dksX0_drop_2 0 rfl rfl)
theorem dX0_drop_49 : decode cX0_drop 49 = .ok (.aload_n 0, 1) := dk_42 (dk_at dksX0_drop_2 1 rfl rfl)
theorem dX0_drop_50 : decode cX0_drop 50 = .ok (.getfield 38, 3) := dk_180 0 38 (dk_at dksX0_drop_2 2 rfl rfl)
theorem dX0_drop_53 : decode cX0_drop 53 = .ok (.getfield 68, 3) := dk_180 0 68 (dk_at dksX0_drop_2 5 rfl rfl)
theorem dX0_drop_56 : decode cX0_drop 56 = .ok (.invokevirtual 72, 3) := dk_182 0 72 (dk_at dksX0_drop_2 8 rfl rfl)
theorem dX0_drop_59 : decode cX0_drop 59 = .ok (.invokevirtual 124, 3) := dk_182 0 124 (dk_at dksX0_drop_2 11 rfl rfl)
theorem dX0_drop_62 : decode cX0_drop 62 = .ok (.ireturn, 1) := dk_172 (dk_at dksX0_drop_2 14 rfl rfl)
abbrev cX0_rule : ByteArray := prog_1_method_35_code
def yX0_rule : MethodName := ⟨RX0, "rule", "(II)I"⟩
def dkwX0_rule_2 : List UInt8 := [182, 0, 106, 192, 0, 171, 28, 182, 0, 240, 172]
abbrev dktX0_rule_2 : List UInt8 := dkwX0_rule_2 ++ []
def dkwX0_rule_1 : List UInt8 := [184, 0, 136, 79, 184, 0, 139, 62, 29, 153, 0, 7, 29, 167, 0, 21, 42, 180, 0, 38, 180, 0, 68, 27]
abbrev dktX0_rule_1 : List UInt8 := dkwX0_rule_1 ++ dktX0_rule_2
def dkwX0_rule_0 : List UInt8 := [5, 188, 10, 89, 3, 42, 42, 27, 182, 0, 237, 182, 0, 128, 79, 89, 4, 28, 3, 8, 184, 0, 98]
abbrev dktX0_rule_0 : List UInt8 := dkwX0_rule_0 ++ dktX0_rule_1
theorem dksX0_rule_0 : cX0_rule.data.toList.drop 0 = dktX0_rule_0 := by decide +kernel
theorem dksX0_rule_1 : cX0_rule.data.toList.drop 23 = dktX0_rule_1 := dk_seg dksX0_rule_0 23 rfl rfl
theorem dksX0_rule_2 : cX0_rule.data.toList.drop 47 = dktX0_rule_2 := dk_seg dksX0_rule_1 24 rfl rfl
theorem dX0_rule_0 : decode cX0_rule 0 = .ok (.iconst 2, 1) := dk_5 (dk_at dksX0_rule_0 0 rfl rfl)
theorem dX0_rule_1 : decode cX0_rule 1 = .ok (.newarray .int, 2) := dk_188_10 (dk_at dksX0_rule_0 1 rfl rfl)
theorem dX0_rule_3 : decode cX0_rule 3 = .ok (.dup, 1) := dk_89 (dk_at dksX0_rule_0 3 rfl rfl)
theorem dX0_rule_4 : decode cX0_rule 4 = .ok (.iconst 0, 1) := dk_3 (dk_at dksX0_rule_0 4 rfl rfl)
theorem dX0_rule_5 : decode cX0_rule 5 = .ok (.aload_n 0, 1) := dk_42 (dk_at dksX0_rule_0 5 rfl rfl)
theorem dX0_rule_6 : decode cX0_rule 6 = .ok (.aload_n 0, 1) := dk_42 (dk_at dksX0_rule_0 6 rfl rfl)
theorem dX0_rule_7 : decode cX0_rule 7 = .ok (.iload_n 1, 1) := dk_27 (dk_at dksX0_rule_0 7 rfl rfl)
theorem dX0_rule_8 : decode cX0_rule 8 = .ok (.invokevirtual 237, 3) := dk_182 0 237 (dk_at dksX0_rule_0 8 rfl rfl)
theorem dX0_rule_11 : decode cX0_rule 11 = .ok (.invokevirtual 128, 3) := dk_182 0 128 (dk_at dksX0_rule_0 11 rfl rfl)
theorem dX0_rule_14 : decode cX0_rule 14 = .ok (.iastore, 1) := dk_79 (dk_at dksX0_rule_0 14 rfl rfl)
theorem dX0_rule_15 : decode cX0_rule 15 = .ok (.dup, 1) := dk_89 (dk_at dksX0_rule_0 15 rfl rfl)
theorem dX0_rule_16 : decode cX0_rule 16 = .ok (.iconst 1, 1) := dk_4 (dk_at dksX0_rule_0 16 rfl rfl)
theorem dX0_rule_17 : decode cX0_rule 17 = .ok (.iload_n 2, 1) := dk_28 (dk_at dksX0_rule_0 17 rfl rfl)
theorem dX0_rule_18 : decode cX0_rule 18 = .ok (.iconst 0, 1) := dk_3 (dk_at dksX0_rule_0 18 rfl rfl)
theorem dX0_rule_19 : decode cX0_rule 19 = .ok (.iconst 5, 1) := dk_8 (dk_at dksX0_rule_0 19 rfl rfl)
theorem dX0_rule_20 : decode cX0_rule 20 = .ok (.invokestatic 98, 3) := dk_184 0 98 (dk_at dksX0_rule_0 20 rfl rfl)
theorem dX0_rule_23 : decode cX0_rule 23 = .ok (.invokestatic 136, 3) := dk_184 0 136 (dk_at dksX0_rule_1 0 rfl rfl)
theorem dX0_rule_26 : decode cX0_rule 26 = .ok (.iastore, 1) := dk_79 (dk_at dksX0_rule_1 3 rfl rfl)
theorem dX0_rule_27 : decode cX0_rule 27 = .ok (.invokestatic 139, 3) := dk_184 0 139 (dk_at dksX0_rule_1 4 rfl rfl)
theorem dX0_rule_30 : decode cX0_rule 30 = .ok (.istore_n 3, 1) := dk_62 (dk_at dksX0_rule_1 7 rfl rfl)
theorem dX0_rule_31 : decode cX0_rule 31 = .ok (.iload_n 3, 1) := dk_29 (dk_at dksX0_rule_1 8 rfl rfl)
theorem dX0_rule_32 : decode cX0_rule 32 = .ok (.ifCond .eq 7, 3) := dk_153 0 7 (dk_at dksX0_rule_1 9 rfl rfl)
theorem dX0_rule_35 : decode cX0_rule 35 = .ok (.iload_n 3, 1) := dk_29 (dk_at dksX0_rule_1 12 rfl rfl)
theorem dX0_rule_36 : decode cX0_rule 36 = .ok (.goto 21, 3) := dk_167 0 21 (dk_at dksX0_rule_1 13 rfl rfl)
theorem dX0_rule_39 : decode cX0_rule 39 = .ok (.aload_n 0, 1) := dk_42 (dk_at dksX0_rule_1 16 rfl rfl)
theorem dX0_rule_40 : decode cX0_rule 40 = .ok (.getfield 38, 3) := dk_180 0 38 (dk_at dksX0_rule_1 17 rfl rfl)
theorem dX0_rule_43 : decode cX0_rule 43 = .ok (.getfield 68, 3) := dk_180 0 68 (dk_at dksX0_rule_1 20 rfl rfl)
theorem dX0_rule_46 : decode cX0_rule 46 = .ok (.iload_n 1, 1) := dk_27 (dk_at dksX0_rule_1 23 rfl rfl)
theorem dX0_rule_47 : decode cX0_rule 47 = .ok (.invokevirtual 106, 3) := dk_182 0 106 (dk_at dksX0_rule_2 0 rfl rfl)
theorem dX0_rule_50 : decode cX0_rule 50 = .ok (.checkcast 171, 3) := dk_192 0 171 (dk_at dksX0_rule_2 3 rfl rfl)
theorem dX0_rule_53 : decode cX0_rule 53 = .ok (.iload_n 2, 1) := dk_28 (dk_at dksX0_rule_2 6 rfl rfl)
theorem dX0_rule_54 : decode cX0_rule 54 = .ok (.invokevirtual 240, 3) := dk_182 0 240 (dk_at dksX0_rule_2 7 rfl rfl)
theorem dX0_rule_57 : decode cX0_rule 57 = .ok (.ireturn, 1) := dk_172 (dk_at dksX0_rule_2 10 rfl rfl)
abbrev cX0_isRule : ByteArray := prog_1_method_18_code
def yX0_isRule : MethodName := ⟨RX0, "isRule", "(I)Z"⟩
def dkwX0_isRule_0 : List UInt8 := [27, 3, 42, 180, 0, 38, 180, 0, 68, 182, 0, 72, 4, 100, 184, 0, 98, 172]
abbrev dktX0_isRule_0 : List UInt8 := dkwX0_isRule_0 ++ []
theorem dksX0_isRule_0 : cX0_isRule.data.toList.drop 0 = dktX0_isRule_0 := by decide +kernel
theorem dX0_isRule_0 : decode cX0_isRule 0 = .ok (.iload_n 1, 1) := dk_27 (dk_at dksX0_isRule_0 0 rfl rfl)
theorem dX0_isRule_1 : decode cX0_isRule 1 = .ok (.iconst 0, 1) := dk_3 (dk_at dksX0_isRule_0 1 rfl rfl)
theorem dX0_isRule_2 : decode cX0_isRule 2 = .ok (.aload_n 0, 1) := dk_42 (dk_at dksX0_isRule_0 2 rfl rfl)
theorem dX0_isRule_3 : decode cX0_isRule 3 = .ok (.getfield 38, 3) := dk_180 0 38 (dk_at dksX0_isRule_0 3 rfl rfl)
theorem dX0_isRule_6 : decode cX0_isRule 6 = .ok (.getfield 68, 3) := dk_180 0 68 (dk_at dksX0_isRule_0 6 rfl rfl)
theorem dX0_isRule_9 : decode cX0_isRule 9 = .ok (.invokevirtual 72, 3) := dk_182 0 72 (dk_at dksX0_isRule_0 9 rfl rfl)
theorem dX0_isRule_12 : decode cX0_isRule 12 = .ok (.iconst 1, 1) := dk_4 (dk_at dksX0_isRule_0 12 rfl rfl)
theorem dX0_isRule_13 : decode cX0_isRule 13 = .ok (.isub, 1) := dk_100 (dk_at dksX0_isRule_0 13 rfl rfl)
theorem dX0_isRule_14 : decode cX0_isRule 14 = .ok (.invokestatic 98, 3) := dk_184 0 98 (dk_at dksX0_isRule_0 14 rfl rfl)
theorem dX0_isRule_17 : decode cX0_isRule 17 = .ok (.ireturn, 1) := dk_172 (dk_at dksX0_isRule_0 17 rfl rfl)
abbrev cX0_many : ByteArray := prog_1_method_5_code
def yX0_many : MethodName := ⟨RX0, "many", "(I)I"⟩
def dkwX0_many_0 : List UInt8 := [3, 60, 26, 61, 28, 153, 0, 15, 132, 1, 1, 28, 28, 4, 100, 126, 61, 167, 255, 243, 27, 172]
abbrev dktX0_many_0 : List UInt8 := dkwX0_many_0 ++ []
theorem dksX0_many_0 : cX0_many.data.toList.drop 0 = dktX0_many_0 := by decide +kernel
theorem dX0_many_0 : decode cX0_many 0 = .ok (.iconst 0, 1) := dk_3 (dk_at dksX0_many_0 0 rfl rfl)
theorem dX0_many_1 : decode cX0_many 1 = .ok (.istore_n 1, 1) := dk_60 (dk_at dksX0_many_0 1 rfl rfl)
theorem dX0_many_2 : decode cX0_many 2 = .ok (.iload_n 0, 1) := dk_26 (dk_at dksX0_many_0 2 rfl rfl)
theorem dX0_many_3 : decode cX0_many 3 = .ok (.istore_n 2, 1) := dk_61 (dk_at dksX0_many_0 3 rfl rfl)
theorem dX0_many_4 : decode cX0_many 4 = .ok (.iload_n 2, 1) := dk_28 (dk_at dksX0_many_0 4 rfl rfl)
theorem dX0_many_5 : decode cX0_many 5 = .ok (.ifCond .eq 15, 3) := dk_153 0 15 (dk_at dksX0_many_0 5 rfl rfl)
theorem dX0_many_8 : decode cX0_many 8 = .ok (.iinc 1 1, 3) := dk_132 1 1 (dk_at dksX0_many_0 8 rfl rfl)
theorem dX0_many_11 : decode cX0_many 11 = .ok (.iload_n 2, 1) := dk_28 (dk_at dksX0_many_0 11 rfl rfl)
theorem dX0_many_12 : decode cX0_many 12 = .ok (.iload_n 2, 1) := dk_28 (dk_at dksX0_many_0 12 rfl rfl)
theorem dX0_many_13 : decode cX0_many 13 = .ok (.iconst 1, 1) := dk_4 (dk_at dksX0_many_0 13 rfl rfl)
theorem dX0_many_14 : decode cX0_many 14 = .ok (.isub, 1) := dk_100 (dk_at dksX0_many_0 14 rfl rfl)
theorem dX0_many_15 : decode cX0_many 15 = .ok (.iand, 1) := dk_126 (dk_at dksX0_many_0 15 rfl rfl)
theorem dX0_many_16 : decode cX0_many 16 = .ok (.istore_n 2, 1) := dk_61 (dk_at dksX0_many_0 16 rfl rfl)
theorem dX0_many_17 : decode cX0_many 17 = .ok (.goto (-13), 3) := dk_167 255 243 (dk_at dksX0_many_0 17 rfl rfl)
theorem dX0_many_20 : decode cX0_many 20 = .ok (.iload_n 1, 1) := dk_27 (dk_at dksX0_many_0 20 rfl rfl)
theorem dX0_many_21 : decode cX0_many 21 = .ok (.ireturn, 1) := dk_172 (dk_at dksX0_many_0 21 rfl rfl)
abbrev cX0_learned : ByteArray := prog_1_method_36_code
def yX0_learned : MethodName := ⟨RX0, "learned", "(II)I"⟩
def dkwX0_learned_1 : List UInt8 := [182, 0, 106, 192, 0, 171, 28, 182, 0, 243, 167, 0, 4, 2, 172]
abbrev dktX0_learned_1 : List UInt8 := dkwX0_learned_1 ++ []
def dkwX0_learned_0 : List UInt8 := [42, 27, 182, 0, 237, 153, 0, 32, 42, 28, 182, 0, 102, 153, 0, 24, 42, 180, 0, 38, 180, 0, 68, 27]
abbrev dktX0_learned_0 : List UInt8 := dkwX0_learned_0 ++ dktX0_learned_1
theorem dksX0_learned_0 : cX0_learned.data.toList.drop 0 = dktX0_learned_0 := by decide +kernel
theorem dksX0_learned_1 : cX0_learned.data.toList.drop 24 = dktX0_learned_1 := dk_seg dksX0_learned_0 24 rfl rfl
theorem dX0_learned_0 : decode cX0_learned 0 = .ok (.aload_n 0, 1) := dk_42 (dk_at dksX0_learned_0 0 rfl rfl)
theorem dX0_learned_1 : decode cX0_learned 1 = .ok (.iload_n 1, 1) := dk_27 (dk_at dksX0_learned_0 1 rfl rfl)
theorem dX0_learned_2 : decode cX0_learned 2 = .ok (.invokevirtual 237, 3) := dk_182 0 237 (dk_at dksX0_learned_0 2 rfl rfl)
theorem dX0_learned_5 : decode cX0_learned 5 = .ok (.ifCond .eq 32, 3) := dk_153 0 32 (dk_at dksX0_learned_0 5 rfl rfl)
theorem dX0_learned_8 : decode cX0_learned 8 = .ok (.aload_n 0, 1) := dk_42 (dk_at dksX0_learned_0 8 rfl rfl)
theorem dX0_learned_9 : decode cX0_learned 9 = .ok (.iload_n 2, 1) := dk_28 (dk_at dksX0_learned_0 9 rfl rfl)
theorem dX0_learned_10 : decode cX0_learned 10 = .ok (.invokevirtual 102, 3) := dk_182 0 102 (dk_at dksX0_learned_0 10 rfl rfl)
theorem dX0_learned_13 : decode cX0_learned 13 = .ok (.ifCond .eq 24, 3) := dk_153 0 24 (dk_at dksX0_learned_0 13 rfl rfl)
theorem dX0_learned_16 : decode cX0_learned 16 = .ok (.aload_n 0, 1) := dk_42 (dk_at dksX0_learned_0 16 rfl rfl)
theorem dX0_learned_17 : decode cX0_learned 17 = .ok (.getfield 38, 3) := dk_180 0 38 (dk_at dksX0_learned_0 17 rfl rfl)
theorem dX0_learned_20 : decode cX0_learned 20 = .ok (.getfield 68, 3) := dk_180 0 68 (dk_at dksX0_learned_0 20 rfl rfl)
theorem dX0_learned_23 : decode cX0_learned 23 = .ok (.iload_n 1, 1) := dk_27 (dk_at dksX0_learned_0 23 rfl rfl)
theorem dX0_learned_24 : decode cX0_learned 24 = .ok (.invokevirtual 106, 3) := dk_182 0 106 (dk_at dksX0_learned_1 0 rfl rfl)
theorem dX0_learned_27 : decode cX0_learned 27 = .ok (.checkcast 171, 3) := dk_192 0 171 (dk_at dksX0_learned_1 3 rfl rfl)
theorem dX0_learned_30 : decode cX0_learned 30 = .ok (.iload_n 2, 1) := dk_28 (dk_at dksX0_learned_1 6 rfl rfl)
theorem dX0_learned_31 : decode cX0_learned 31 = .ok (.invokevirtual 243, 3) := dk_182 0 243 (dk_at dksX0_learned_1 7 rfl rfl)
theorem dX0_learned_34 : decode cX0_learned 34 = .ok (.goto 4, 3) := dk_167 0 4 (dk_at dksX0_learned_1 10 rfl rfl)
theorem dX0_learned_37 : decode cX0_learned 37 = .ok (.iconst (-1), 1) := dk_2 (dk_at dksX0_learned_1 13 rfl rfl)
theorem dX0_learned_38 : decode cX0_learned 38 = .ok (.ireturn, 1) := dk_172 (dk_at dksX0_learned_1 14 rfl rfl)
abbrev cX0_states : ByteArray := prog_1_method_39_code
def yX0_states : MethodName := ⟨RX0, "states", "(I)I"⟩
def dkwX0_states_0 : List UInt8 := [42, 27, 182, 0, 102, 153, 0, 15, 42, 182, 1, 5, 180, 1, 9, 27, 46, 167, 0, 4, 2, 172]
abbrev dktX0_states_0 : List UInt8 := dkwX0_states_0 ++ []
theorem dksX0_states_0 : cX0_states.data.toList.drop 0 = dktX0_states_0 := by decide +kernel
theorem dX0_states_0 : decode cX0_states 0 = .ok (.aload_n 0, 1) := dk_42 (dk_at dksX0_states_0 0 rfl rfl)
theorem dX0_states_1 : decode cX0_states 1 = .ok (.iload_n 1, 1) := dk_27 (dk_at dksX0_states_0 1 rfl rfl)
theorem dX0_states_2 : decode cX0_states 2 = .ok (.invokevirtual 102, 3) := dk_182 0 102 (dk_at dksX0_states_0 2 rfl rfl)
theorem dX0_states_5 : decode cX0_states 5 = .ok (.ifCond .eq 15, 3) := dk_153 0 15 (dk_at dksX0_states_0 5 rfl rfl)
theorem dX0_states_8 : decode cX0_states 8 = .ok (.aload_n 0, 1) := dk_42 (dk_at dksX0_states_0 8 rfl rfl)
theorem dX0_states_9 : decode cX0_states 9 = .ok (.invokevirtual 261, 3) := dk_182 1 5 (dk_at dksX0_states_0 9 rfl rfl)
theorem dX0_states_12 : decode cX0_states 12 = .ok (.getfield 265, 3) := dk_180 1 9 (dk_at dksX0_states_0 12 rfl rfl)
theorem dX0_states_15 : decode cX0_states 15 = .ok (.iload_n 1, 1) := dk_27 (dk_at dksX0_states_0 15 rfl rfl)
theorem dX0_states_16 : decode cX0_states 16 = .ok (.iaload, 1) := dk_46 (dk_at dksX0_states_0 16 rfl rfl)
theorem dX0_states_17 : decode cX0_states 17 = .ok (.goto 4, 3) := dk_167 0 4 (dk_at dksX0_states_0 17 rfl rfl)
theorem dX0_states_20 : decode cX0_states 20 = .ok (.iconst (-1), 1) := dk_2 (dk_at dksX0_states_0 20 rfl rfl)
theorem dX0_states_21 : decode cX0_states 21 = .ok (.ireturn, 1) := dk_172 (dk_at dksX0_states_0 21 rfl rfl)
abbrev cX0_traced : ByteArray := prog_1_method_38_code
def yX0_traced : MethodName := ⟨RX0, "traced", "()LVersionSolver$Trace;"⟩
def dkwX0_traced_0 : List UInt8 := [187, 0, 249, 89, 42, 180, 0, 38, 183, 0, 251, 42, 182, 0, 254, 182, 1, 1, 176]
abbrev dktX0_traced_0 : List UInt8 := dkwX0_traced_0 ++ []
theorem dksX0_traced_0 : cX0_traced.data.toList.drop 0 = dktX0_traced_0 := by decide +kernel
theorem dX0_traced_0 : decode cX0_traced 0 = .ok (.new 249, 3) := dk_187 0 249 (dk_at dksX0_traced_0 0 rfl rfl)
theorem dX0_traced_3 : decode cX0_traced 3 = .ok (.dup, 1) := dk_89 (dk_at dksX0_traced_0 3 rfl rfl)
theorem dX0_traced_4 : decode cX0_traced 4 = .ok (.aload_n 0, 1) := dk_42 (dk_at dksX0_traced_0 4 rfl rfl)
theorem dX0_traced_5 : decode cX0_traced 5 = .ok (.getfield 38, 3) := dk_180 0 38 (dk_at dksX0_traced_0 5 rfl rfl)
theorem dX0_traced_8 : decode cX0_traced 8 = .ok (.invokespecial 251, 3) := dk_183 0 251 (dk_at dksX0_traced_0 8 rfl rfl)
theorem dX0_traced_11 : decode cX0_traced 11 = .ok (.aload_n 0, 1) := dk_42 (dk_at dksX0_traced_0 11 rfl rfl)
theorem dX0_traced_12 : decode cX0_traced 12 = .ok (.invokevirtual 254, 3) := dk_182 0 254 (dk_at dksX0_traced_0 12 rfl rfl)
theorem dX0_traced_15 : decode cX0_traced 15 = .ok (.invokevirtual 257, 3) := dk_182 1 1 (dk_at dksX0_traced_0 15 rfl rfl)
theorem dX0_traced_18 : decode cX0_traced 18 = .ok (.areturn, 1) := dk_176 (dk_at dksX0_traced_0 18 rfl rfl)
abbrev cX0_allAssumptions : ByteArray := prog_1_method_37_code
def yX0_allAssumptions : MethodName := ⟨RX0, "allAssumptions", "()I"⟩
def dkwX0_allAssumptions_0 : List UInt8 := [4, 42, 180, 0, 38, 180, 0, 246, 182, 0, 72, 120, 4, 100, 172]
abbrev dktX0_allAssumptions_0 : List UInt8 := dkwX0_allAssumptions_0 ++ []
theorem dksX0_allAssumptions_0 : cX0_allAssumptions.data.toList.drop 0 = dktX0_allAssumptions_0 := by decide +kernel
theorem dX0_allAssumptions_0 : decode cX0_allAssumptions 0 = .ok (.iconst 1, 1) := dk_4 (dk_at dksX0_allAssumptions_0 0 rfl rfl)
theorem dX0_allAssumptions_1 : decode cX0_allAssumptions 1 = .ok (.aload_n 0, 1) := dk_42 (dk_at dksX0_allAssumptions_0 1 rfl rfl)
theorem dX0_allAssumptions_2 : decode cX0_allAssumptions 2 = .ok (.getfield 38, 3) := dk_180 0 38 (dk_at dksX0_allAssumptions_0 2 rfl rfl)
theorem dX0_allAssumptions_5 : decode cX0_allAssumptions 5 = .ok (.getfield 246, 3) := dk_180 0 246 (dk_at dksX0_allAssumptions_0 5 rfl rfl)
theorem dX0_allAssumptions_8 : decode cX0_allAssumptions 8 = .ok (.invokevirtual 72, 3) := dk_182 0 72 (dk_at dksX0_allAssumptions_0 8 rfl rfl)
theorem dX0_allAssumptions_11 : decode cX0_allAssumptions 11 = .ok (.ishl, 1) := dk_120 (dk_at dksX0_allAssumptions_0 11 rfl rfl)
theorem dX0_allAssumptions_12 : decode cX0_allAssumptions 12 = .ok (.iconst 1, 1) := dk_4 (dk_at dksX0_allAssumptions_0 12 rfl rfl)
theorem dX0_allAssumptions_13 : decode cX0_allAssumptions 13 = .ok (.isub, 1) := dk_100 (dk_at dksX0_allAssumptions_0 13 rfl rfl)
theorem dX0_allAssumptions_14 : decode cX0_allAssumptions 14 = .ok (.ireturn, 1) := dk_172 (dk_at dksX0_allAssumptions_0 14 rfl rfl)
abbrev cX0_steps : ByteArray := prog_1_method_40_code
def yX0_steps : MethodName := ⟨RX0, "steps", "()I"⟩
def dkwX0_steps_0 : List UInt8 := [42, 182, 1, 5, 180, 1, 13, 182, 0, 72, 172]
abbrev dktX0_steps_0 : List UInt8 := dkwX0_steps_0 ++ []
theorem dksX0_steps_0 : cX0_steps.data.toList.drop 0 = dktX0_steps_0 := by decide +kernel
theorem dX0_steps_0 : decode cX0_steps 0 = .ok (.aload_n 0, 1) := dk_42 (dk_at dksX0_steps_0 0 rfl rfl)
theorem dX0_steps_1 : decode cX0_steps 1 = .ok (.invokevirtual 261, 3) := dk_182 1 5 (dk_at dksX0_steps_0 1 rfl rfl)
theorem dX0_steps_4 : decode cX0_steps 4 = .ok (.getfield 269, 3) := dk_180 1 13 (dk_at dksX0_steps_0 4 rfl rfl)
theorem dX0_steps_7 : decode cX0_steps 7 = .ok (.invokevirtual 72, 3) := dk_182 0 72 (dk_at dksX0_steps_0 7 rfl rfl)
theorem dX0_steps_10 : decode cX0_steps 10 = .ok (.ireturn, 1) := dk_172 (dk_at dksX0_steps_0 10 rfl rfl)
abbrev cX0_step : ByteArray := prog_1_method_42_code
def yX0_step : MethodName := ⟨RX0, "step", "(II)I"⟩
def dkwX0_step_3 : List UInt8 := [184, 1, 37, 172]
abbrev dktX0_step_3 : List UInt8 := dkwX0_step_3 ++ []
def dkwX0_step_2 : List UInt8 := [21, 4, 153, 0, 8, 21, 4, 167, 0, 18, 45, 180, 1, 13, 27, 182, 0, 106, 192, 1, 17, 28]
abbrev dktX0_step_2 : List UInt8 := dkwX0_step_2 ++ dktX0_step_3
def dkwX0_step_1 : List UInt8 := [184, 0, 98, 182, 0, 128, 79, 89, 4, 28, 3, 6, 184, 0, 98, 184, 0, 136, 79, 184, 0, 139, 54, 4]
abbrev dktX0_step_1 : List UInt8 := dkwX0_step_1 ++ dktX0_step_2
def dkwX0_step_0 : List UInt8 := [42, 182, 1, 5, 78, 5, 188, 10, 89, 3, 42, 27, 3, 45, 180, 1, 13, 182, 0, 72, 4, 100]
abbrev dktX0_step_0 : List UInt8 := dkwX0_step_0 ++ dktX0_step_1
theorem dksX0_step_0 : cX0_step.data.toList.drop 0 = dktX0_step_0 := by decide +kernel
theorem dksX0_step_1 : cX0_step.data.toList.drop 22 = dktX0_step_1 := dk_seg dksX0_step_0 22 rfl rfl
theorem dksX0_step_2 : cX0_step.data.toList.drop 46 = dktX0_step_2 := dk_seg dksX0_step_1 24 rfl rfl
theorem dksX0_step_3 : cX0_step.data.toList.drop 68 = dktX0_step_3 := dk_seg dksX0_step_2 22 rfl rfl
theorem dX0_step_0 : decode cX0_step 0 = .ok (.aload_n 0, 1) := dk_42 (dk_at dksX0_step_0 0 rfl rfl)
theorem dX0_step_1 : decode cX0_step 1 = .ok (.invokevirtual 261, 3) := dk_182 1 5 (dk_at dksX0_step_0 1 rfl rfl)
theorem dX0_step_4 : decode cX0_step 4 = .ok (.astore_n 3, 1) := dk_78 (dk_at dksX0_step_0 4 rfl rfl)
theorem dX0_step_5 : decode cX0_step 5 = .ok (.iconst 2, 1) := dk_5 (dk_at dksX0_step_0 5 rfl rfl)
theorem dX0_step_6 : decode cX0_step 6 = .ok (.newarray .int, 2) := dk_188_10 (dk_at dksX0_step_0 6 rfl rfl)
theorem dX0_step_8 : decode cX0_step 8 = .ok (.dup, 1) := dk_89 (dk_at dksX0_step_0 8 rfl rfl)
theorem dX0_step_9 : decode cX0_step 9 = .ok (.iconst 0, 1) := dk_3 (dk_at dksX0_step_0 9 rfl rfl)
theorem dX0_step_10 : decode cX0_step 10 = .ok (.aload_n 0, 1) := dk_42 (dk_at dksX0_step_0 10 rfl rfl)
theorem dX0_step_11 : decode cX0_step 11 = .ok (.iload_n 1, 1) := dk_27 (dk_at dksX0_step_0 11 rfl rfl)
theorem dX0_step_12 : decode cX0_step 12 = .ok (.iconst 0, 1) := dk_3 (dk_at dksX0_step_0 12 rfl rfl)
theorem dX0_step_13 : decode cX0_step 13 = .ok (.aload_n 3, 1) := dk_45 (dk_at dksX0_step_0 13 rfl rfl)
theorem dX0_step_14 : decode cX0_step 14 = .ok (.getfield 269, 3) := dk_180 1 13 (dk_at dksX0_step_0 14 rfl rfl)
theorem dX0_step_17 : decode cX0_step 17 = .ok (.invokevirtual 72, 3) := dk_182 0 72 (dk_at dksX0_step_0 17 rfl rfl)
theorem dX0_step_20 : decode cX0_step 20 = .ok (.iconst 1, 1) := dk_4 (dk_at dksX0_step_0 20 rfl rfl)
theorem dX0_step_21 : decode cX0_step 21 = .ok (.isub, 1) := dk_100 (dk_at dksX0_step_0 21 rfl rfl)
theorem dX0_step_22 : decode cX0_step 22 = .ok (.invokestatic 98, 3) := dk_184 0 98 (dk_at dksX0_step_1 0 rfl rfl)
theorem dX0_step_25 : decode cX0_step 25 = .ok (.invokevirtual 128, 3) := dk_182 0 128 (dk_at dksX0_step_1 3 rfl rfl)
theorem dX0_step_28 : decode cX0_step 28 = .ok (.iastore, 1) := dk_79 (dk_at dksX0_step_1 6 rfl rfl)
theorem dX0_step_29 : decode cX0_step 29 = .ok (.dup, 1) := dk_89 (dk_at dksX0_step_1 7 rfl rfl)
theorem dX0_step_30 : decode cX0_step 30 = .ok (.iconst 1, 1) := dk_4 (dk_at dksX0_step_1 8 rfl rfl)
theorem dX0_step_31 : decode cX0_step 31 = .ok (.iload_n 2, 1) := dk_28 (dk_at dksX0_step_1 9 rfl rfl)
theorem dX0_step_32 : decode cX0_step 32 = .ok (.iconst 0, 1) := dk_3 (dk_at dksX0_step_1 10 rfl rfl)
theorem dX0_step_33 : decode cX0_step 33 = .ok (.iconst 3, 1) := dk_6 (dk_at dksX0_step_1 11 rfl rfl)
theorem dX0_step_34 : decode cX0_step 34 = .ok (.invokestatic 98, 3) := dk_184 0 98 (dk_at dksX0_step_1 12 rfl rfl)
theorem dX0_step_37 : decode cX0_step 37 = .ok (.invokestatic 136, 3) := dk_184 0 136 (dk_at dksX0_step_1 15 rfl rfl)
theorem dX0_step_40 : decode cX0_step 40 = .ok (.iastore, 1) := dk_79 (dk_at dksX0_step_1 18 rfl rfl)
theorem dX0_step_41 : decode cX0_step 41 = .ok (.invokestatic 139, 3) := dk_184 0 139 (dk_at dksX0_step_1 19 rfl rfl)
theorem dX0_step_44 : decode cX0_step 44 = .ok (.istore 4, 2) := dk_54 4 (dk_at dksX0_step_1 22 rfl rfl)
theorem dX0_step_46 : decode cX0_step 46 = .ok (.iload 4, 2) := dk_21 4 (dk_at dksX0_step_2 0 rfl rfl)
theorem dX0_step_48 : decode cX0_step 48 = .ok (.ifCond .eq 8, 3) := dk_153 0 8 (dk_at dksX0_step_2 2 rfl rfl)
theorem dX0_step_51 : decode cX0_step 51 = .ok (.iload 4, 2) := dk_21 4 (dk_at dksX0_step_2 5 rfl rfl)
theorem dX0_step_53 : decode cX0_step 53 = .ok (.goto 18, 3) := dk_167 0 18 (dk_at dksX0_step_2 7 rfl rfl)
theorem dX0_step_56 : decode cX0_step 56 = .ok (.aload_n 3, 1) := dk_45 (dk_at dksX0_step_2 10 rfl rfl)
theorem dX0_step_57 : decode cX0_step 57 = .ok (.getfield 269, 3) := dk_180 1 13 (dk_at dksX0_step_2 11 rfl rfl)
theorem dX0_step_60 : decode cX0_step 60 = .ok (.iload_n 1, 1) := dk_27 (dk_at dksX0_step_2 14 rfl rfl)
theorem dX0_step_61 : decode cX0_step 61 = .ok (.invokevirtual 106, 3) := dk_182 0 106 (dk_at dksX0_step_2 15 rfl rfl)
theorem dX0_step_64 : decode cX0_step 64 = .ok (.checkcast 273, 3) := dk_192 1 17 (dk_at dksX0_step_2 18 rfl rfl)
theorem dX0_step_67 : decode cX0_step 67 = .ok (.iload_n 2, 1) := dk_28 (dk_at dksX0_step_2 21 rfl rfl)
theorem dX0_step_68 : decode cX0_step 68 = .ok (.invokestatic 293, 3) := dk_184 1 37 (dk_at dksX0_step_3 0 rfl rfl)
theorem dX0_step_71 : decode cX0_step 71 = .ok (.ireturn, 1) := dk_172 (dk_at dksX0_step_3 3 rfl rfl)
abbrev cX0_whatOf : ByteArray := prog_1_method_41_code
def yX0_whatOf : MethodName := ⟨RX0, "whatOf", "(LVersionSolver$Step;I)I"⟩
def dkwX0_whatOf_3 : List UInt8 := [180, 1, 27, 184, 1, 31, 172]
abbrev dktX0_whatOf_3 : List UInt8 := dkwX0_whatOf_3 ++ []
def dkwX0_whatOf_2 : List UInt8 := [42, 180, 1, 16, 167, 0, 24, 42, 180, 1, 21, 167, 0, 17, 42, 180, 1, 24, 167, 0, 10, 42]
abbrev dktX0_whatOf_2 : List UInt8 := dkwX0_whatOf_2 ++ dktX0_whatOf_3
def dkwX0_whatOf_1 : List UInt8 := [170, 0, 0, 0, 0, 0, 48, 0, 0, 0, 0, 0, 0, 0, 2, 0, 0, 0, 27, 0, 0, 0, 34, 0, 0, 0, 41]
abbrev dktX0_whatOf_1 : List UInt8 := dkwX0_whatOf_1 ++ dktX0_whatOf_2
def dkwX0_whatOf_0 : List UInt8 := [27]
abbrev dktX0_whatOf_0 : List UInt8 := dkwX0_whatOf_0 ++ dktX0_whatOf_1
theorem dksX0_whatOf_0 : cX0_whatOf.data.toList.drop 0 = dktX0_whatOf_0 := by decide +kernel
theorem dksX0_whatOf_1 : cX0_whatOf.data.toList.drop 1 = dktX0_whatOf_1 := dk_seg dksX0_whatOf_0 1 rfl rfl
theorem dksX0_whatOf_2 : cX0_whatOf.data.toList.drop 28 = dktX0_whatOf_2 := dk_seg dksX0_whatOf_1 27 rfl rfl
theorem dksX0_whatOf_3 : cX0_whatOf.data.toList.drop 50 = dktX0_whatOf_3 := dk_seg dksX0_whatOf_2 22 rfl rfl
theorem dX0_whatOf_0 : decode cX0_whatOf 0 = .ok (.iload_n 1, 1) := dk_27 (dk_at dksX0_whatOf_0 0 rfl rfl)
theorem dX0_whatOf_1 : decode cX0_whatOf 1 = .ok (.tableswitch 48 0 2 #[27, 34, 41], 27) := by decide +kernel
theorem dX0_whatOf_28 : decode cX0_whatOf 28 = .ok (.aload_n 0, 1) := dk_42 (dk_at dksX0_whatOf_2 0 rfl rfl)
theorem dX0_whatOf_29 : decode cX0_whatOf 29 = .ok (.getfield 272, 3) := dk_180 1 16 (dk_at dksX0_whatOf_2 1 rfl rfl)
theorem dX0_whatOf_32 : decode cX0_whatOf 32 = .ok (.goto 24, 3) := dk_167 0 24 (dk_at dksX0_whatOf_2 4 rfl rfl)
theorem dX0_whatOf_35 : decode cX0_whatOf 35 = .ok (.aload_n 0, 1) := dk_42 (dk_at dksX0_whatOf_2 7 rfl rfl)
theorem dX0_whatOf_36 : decode cX0_whatOf 36 = .ok (.getfield 277, 3) := dk_180 1 21 (dk_at dksX0_whatOf_2 8 rfl rfl)
theorem dX0_whatOf_39 : decode cX0_whatOf 39 = .ok (.goto 17, 3) := dk_167 0 17 (dk_at dksX0_whatOf_2 11 rfl rfl)
theorem dX0_whatOf_42 : decode cX0_whatOf 42 = .ok (.aload_n 0, 1) := dk_42 (dk_at dksX0_whatOf_2 14 rfl rfl)
theorem dX0_whatOf_43 : decode cX0_whatOf 43 = .ok (.getfield 280, 3) := dk_180 1 24 (dk_at dksX0_whatOf_2 15 rfl rfl)
theorem dX0_whatOf_46 : decode cX0_whatOf 46 = .ok (.goto 10, 3) := dk_167 0 10 (dk_at dksX0_whatOf_2 18 rfl rfl)
theorem dX0_whatOf_49 : decode cX0_whatOf 49 = .ok (.aload_n 0, 1) := dk_42 (dk_at dksX0_whatOf_2 21 rfl rfl)
theorem dX0_whatOf_50 : decode cX0_whatOf 50 = .ok (.getfield 283, 3) := dk_180 1 27 (dk_at dksX0_whatOf_3 0 rfl rfl)
theorem dX0_whatOf_53 : decode cX0_whatOf 53 = .ok (.invokestatic 287, 3) := dk_184 1 31 (dk_at dksX0_whatOf_3 3 rfl rfl)
theorem dX0_whatOf_56 : decode cX0_whatOf 56 = .ok (.ireturn, 1) := dk_172 (dk_at dksX0_whatOf_3 6 rfl rfl)
abbrev cX0_cause : ByteArray := prog_1_method_43_code
def yX0_cause : MethodName := ⟨RX0, "cause", "(II)I"⟩
def dkwX0_cause_4 : List UInt8 := [184, 0, 199, 153, 0, 6, 21, 5, 172, 132, 5, 1, 167, 255, 201, 16, 251, 172]
abbrev dktX0_cause_4 : List UInt8 := dkwX0_cause_4 ++ []
def dkwX0_cause_3 : List UInt8 := [182, 0, 106, 192, 1, 17, 58, 6, 25, 6, 180, 1, 21, 27, 160, 0, 18, 25, 6, 180, 1, 24, 28]
abbrev dktX0_cause_3 : List UInt8 := dkwX0_cause_3 ++ dktX0_cause_4
def dkwX0_cause_2 : List UInt8 := [54, 5, 21, 5, 25, 4, 180, 1, 13, 182, 0, 72, 162, 0, 48, 25, 4, 180, 1, 13, 21, 5]
abbrev dktX0_cause_2 : List UInt8 := dkwX0_cause_2 ++ dktX0_cause_3
def dkwX0_cause_1 : List UInt8 := [182, 0, 106, 192, 0, 110, 28, 182, 1, 41, 154, 0, 6, 16, 254, 172, 42, 182, 1, 5, 58, 4, 3]
abbrev dktX0_cause_1 : List UInt8 := dkwX0_cause_1 ++ dktX0_cause_2
def dkwX0_cause_0 : List UInt8 := [42, 42, 27, 182, 0, 102, 182, 0, 128, 62, 29, 153, 0, 5, 29, 172, 42, 180, 0, 38, 180, 0, 95, 27]
abbrev dktX0_cause_0 : List UInt8 := dkwX0_cause_0 ++ dktX0_cause_1
theorem dksX0_cause_0 : cX0_cause.data.toList.drop 0 = dktX0_cause_0 := by decide +kernel
theorem dksX0_cause_1 : cX0_cause.data.toList.drop 24 = dktX0_cause_1 := dk_seg dksX0_cause_0 24 rfl rfl
theorem dksX0_cause_2 : cX0_cause.data.toList.drop 47 = dktX0_cause_2 := dk_seg dksX0_cause_1 23 rfl rfl
theorem dksX0_cause_3 : cX0_cause.data.toList.drop 69 = dktX0_cause_3 := dk_seg dksX0_cause_2 22 rfl rfl
theorem dksX0_cause_4 : cX0_cause.data.toList.drop 92 = dktX0_cause_4 := dk_seg dksX0_cause_3 23 rfl rfl
theorem dX0_cause_0 : decode cX0_cause 0 = .ok (.aload_n 0, 1) := dk_42 (dk_at dksX0_cause_0 0 rfl rfl)
theorem dX0_cause_1 : decode cX0_cause 1 = .ok (.aload_n 0, 1) := dk_42 (dk_at dksX0_cause_0 1 rfl rfl)
theorem dX0_cause_2 : decode cX0_cause 2 = .ok (.iload_n 1, 1) := dk_27 (dk_at dksX0_cause_0 2 rfl rfl)
theorem dX0_cause_3 : decode cX0_cause 3 = .ok (.invokevirtual 102, 3) := dk_182 0 102 (dk_at dksX0_cause_0 3 rfl rfl)
theorem dX0_cause_6 : decode cX0_cause 6 = .ok (.invokevirtual 128, 3) := dk_182 0 128 (dk_at dksX0_cause_0 6 rfl rfl)
theorem dX0_cause_9 : decode cX0_cause 9 = .ok (.istore_n 3, 1) := dk_62 (dk_at dksX0_cause_0 9 rfl rfl)
theorem dX0_cause_10 : decode cX0_cause 10 = .ok (.iload_n 3, 1) := dk_29 (dk_at dksX0_cause_0 10 rfl rfl)
theorem dX0_cause_11 : decode cX0_cause 11 = .ok (.ifCond .eq 5, 3) := dk_153 0 5 (dk_at dksX0_cause_0 11 rfl rfl)
theorem dX0_cause_14 : decode cX0_cause 14 = .ok (.iload_n 3, 1) := dk_29 (dk_at dksX0_cause_0 14 rfl rfl)
theorem dX0_cause_15 : decode cX0_cause 15 = .ok (.ireturn, 1) := dk_172 (dk_at dksX0_cause_0 15 rfl rfl)
theorem dX0_cause_16 : decode cX0_cause 16 = .ok (.aload_n 0, 1) := dk_42 (dk_at dksX0_cause_0 16 rfl rfl)
theorem dX0_cause_17 : decode cX0_cause 17 = .ok (.getfield 38, 3) := dk_180 0 38 (dk_at dksX0_cause_0 17 rfl rfl)
theorem dX0_cause_20 : decode cX0_cause 20 = .ok (.getfield 95, 3) := dk_180 0 95 (dk_at dksX0_cause_0 20 rfl rfl)
theorem dX0_cause_23 : decode cX0_cause 23 = .ok (.iload_n 1, 1) := dk_27 (dk_at dksX0_cause_0 23 rfl rfl)
theorem dX0_cause_24 : decode cX0_cause 24 = .ok (.invokevirtual 106, 3) := dk_182 0 106 (dk_at dksX0_cause_1 0 rfl rfl)
theorem dX0_cause_27 : decode cX0_cause 27 = .ok (.checkcast 110, 3) := dk_192 0 110 (dk_at dksX0_cause_1 3 rfl rfl)
theorem dX0_cause_30 : decode cX0_cause 30 = .ok (.iload_n 2, 1) := dk_28 (dk_at dksX0_cause_1 6 rfl rfl)
theorem dX0_cause_31 : decode cX0_cause 31 = .ok (.invokevirtual 297, 3) := dk_182 1 41 (dk_at dksX0_cause_1 7 rfl rfl)
theorem dX0_cause_34 : decode cX0_cause 34 = .ok (.ifCond .ne 6, 3) := dk_154 0 6 (dk_at dksX0_cause_1 10 rfl rfl)
theorem dX0_cause_37 : decode cX0_cause 37 = .ok (.bipush (-2), 2) := dk_16 254 (dk_at dksX0_cause_1 13 rfl rfl)
theorem dX0_cause_39 : decode cX0_cause 39 = .ok (.ireturn, 1) := dk_172 (dk_at dksX0_cause_1 15 rfl rfl)
theorem dX0_cause_40 : decode cX0_cause 40 = .ok (.aload_n 0, 1) := dk_42 (dk_at dksX0_cause_1 16 rfl rfl)
theorem dX0_cause_41 : decode cX0_cause 41 = .ok (.invokevirtual 261, 3) := dk_182 1 5 (dk_at dksX0_cause_1 17 rfl rfl)
theorem dX0_cause_44 : decode cX0_cause 44 = .ok (.astore 4, 2) := dk_58 4 (dk_at dksX0_cause_1 20 rfl rfl)
theorem dX0_cause_46 : decode cX0_cause 46 = .ok (.iconst 0, 1) := dk_3 (dk_at dksX0_cause_1 22 rfl rfl)
theorem dX0_cause_47 : decode cX0_cause 47 = .ok (.istore 5, 2) := dk_54 5 (dk_at dksX0_cause_2 0 rfl rfl)
theorem dX0_cause_49 : decode cX0_cause 49 = .ok (.iload 5, 2) := dk_21 5 (dk_at dksX0_cause_2 2 rfl rfl)
theorem dX0_cause_51 : decode cX0_cause 51 = .ok (.aload 4, 2) := dk_25 4 (dk_at dksX0_cause_2 4 rfl rfl)
theorem dX0_cause_53 : decode cX0_cause 53 = .ok (.getfield 269, 3) := dk_180 1 13 (dk_at dksX0_cause_2 6 rfl rfl)
theorem dX0_cause_56 : decode cX0_cause 56 = .ok (.invokevirtual 72, 3) := dk_182 0 72 (dk_at dksX0_cause_2 9 rfl rfl)
theorem dX0_cause_59 : decode cX0_cause 59 = .ok (.if_icmp .ge 48, 3) := dk_162 0 48 (dk_at dksX0_cause_2 12 rfl rfl)
theorem dX0_cause_62 : decode cX0_cause 62 = .ok (.aload 4, 2) := dk_25 4 (dk_at dksX0_cause_2 15 rfl rfl)
theorem dX0_cause_64 : decode cX0_cause 64 = .ok (.getfield 269, 3) := dk_180 1 13 (dk_at dksX0_cause_2 17 rfl rfl)
theorem dX0_cause_67 : decode cX0_cause 67 = .ok (.iload 5, 2) := dk_21 5 (dk_at dksX0_cause_2 20 rfl rfl)
theorem dX0_cause_69 : decode cX0_cause 69 = .ok (.invokevirtual 106, 3) := dk_182 0 106 (dk_at dksX0_cause_3 0 rfl rfl)
theorem dX0_cause_72 : decode cX0_cause 72 = .ok (.checkcast 273, 3) := dk_192 1 17 (dk_at dksX0_cause_3 3 rfl rfl)
theorem dX0_cause_75 : decode cX0_cause 75 = .ok (.astore 6, 2) := dk_58 6 (dk_at dksX0_cause_3 6 rfl rfl)
theorem dX0_cause_77 : decode cX0_cause 77 = .ok (.aload 6, 2) := dk_25 6 (dk_at dksX0_cause_3 8 rfl rfl)
theorem dX0_cause_79 : decode cX0_cause 79 = .ok (.getfield 277, 3) := dk_180 1 21 (dk_at dksX0_cause_3 10 rfl rfl)
theorem dX0_cause_82 : decode cX0_cause 82 = .ok (.iload_n 1, 1) := dk_27 (dk_at dksX0_cause_3 13 rfl rfl)
theorem dX0_cause_83 : decode cX0_cause 83 = .ok (.if_icmp .ne 18, 3) := dk_160 0 18 (dk_at dksX0_cause_3 14 rfl rfl)
theorem dX0_cause_86 : decode cX0_cause 86 = .ok (.aload 6, 2) := dk_25 6 (dk_at dksX0_cause_3 17 rfl rfl)
theorem dX0_cause_88 : decode cX0_cause 88 = .ok (.getfield 280, 3) := dk_180 1 24 (dk_at dksX0_cause_3 19 rfl rfl)
theorem dX0_cause_91 : decode cX0_cause 91 = .ok (.iload_n 2, 1) := dk_28 (dk_at dksX0_cause_3 22 rfl rfl)
theorem dX0_cause_92 : decode cX0_cause 92 = .ok (.invokestatic 199, 3) := dk_184 0 199 (dk_at dksX0_cause_4 0 rfl rfl)
theorem dX0_cause_95 : decode cX0_cause 95 = .ok (.ifCond .eq 6, 3) := dk_153 0 6 (dk_at dksX0_cause_4 3 rfl rfl)
theorem dX0_cause_98 : decode cX0_cause 98 = .ok (.iload 5, 2) := dk_21 5 (dk_at dksX0_cause_4 6 rfl rfl)
theorem dX0_cause_100 : decode cX0_cause 100 = .ok (.ireturn, 1) := dk_172 (dk_at dksX0_cause_4 8 rfl rfl)
theorem dX0_cause_101 : decode cX0_cause 101 = .ok (.iinc 5 1, 3) := dk_132 5 1 (dk_at dksX0_cause_4 9 rfl rfl)
theorem dX0_cause_104 : decode cX0_cause 104 = .ok (.goto (-55), 3) := dk_167 255 201 (dk_at dksX0_cause_4 12 rfl rfl)
theorem dX0_cause_107 : decode cX0_cause 107 = .ok (.bipush (-5), 2) := dk_16 251 (dk_at dksX0_cause_4 15 rfl rfl)
theorem dX0_cause_109 : decode cX0_cause 109 = .ok (.ireturn, 1) := dk_172 (dk_at dksX0_cause_4 17 rfl rfl)
abbrev cX0_conflict : ByteArray := prog_1_method_44_code
def yX0_conflict : MethodName := ⟨RX0, "conflict", "()I"⟩
def dkwX0_conflict_0 : List UInt8 := [42, 182, 1, 5, 180, 1, 44, 172]
abbrev dktX0_conflict_0 : List UInt8 := dkwX0_conflict_0 ++ []
theorem dksX0_conflict_0 : cX0_conflict.data.toList.drop 0 = dktX0_conflict_0 := by decide +kernel
theorem dX0_conflict_0 : decode cX0_conflict 0 = .ok (.aload_n 0, 1) := dk_42 (dk_at dksX0_conflict_0 0 rfl rfl)
theorem dX0_conflict_1 : decode cX0_conflict 1 = .ok (.invokevirtual 261, 3) := dk_182 1 5 (dk_at dksX0_conflict_0 1 rfl rfl)
theorem dX0_conflict_4 : decode cX0_conflict 4 = .ok (.getfield 300, 3) := dk_180 1 44 (dk_at dksX0_conflict_0 4 rfl rfl)
theorem dX0_conflict_7 : decode cX0_conflict 7 = .ok (.ireturn, 1) := dk_172 (dk_at dksX0_conflict_0 7 rfl rfl)
abbrev cX0_proof : ByteArray := prog_1_method_45_code
def yX0_proof : MethodName := ⟨RX0, "proof", "()J"⟩
def dkwX0_proof_0 : List UInt8 := [42, 182, 1, 5, 182, 1, 47, 173]
abbrev dktX0_proof_0 : List UInt8 := dkwX0_proof_0 ++ []
theorem dksX0_proof_0 : cX0_proof.data.toList.drop 0 = dktX0_proof_0 := by decide +kernel
theorem dX0_proof_0 : decode cX0_proof 0 = .ok (.aload_n 0, 1) := dk_42 (dk_at dksX0_proof_0 0 rfl rfl)
theorem dX0_proof_1 : decode cX0_proof 1 = .ok (.invokevirtual 261, 3) := dk_182 1 5 (dk_at dksX0_proof_0 1 rfl rfl)
theorem dX0_proof_4 : decode cX0_proof 4 = .ok (.invokevirtual 303, 3) := dk_182 1 47 (dk_at dksX0_proof_0 4 rfl rfl)
theorem dX0_proof_7 : decode cX0_proof 7 = .ok (.lreturn, 1) := dk_173 (dk_at dksX0_proof_0 7 rfl rfl)
abbrev cX0_isProved : ByteArray := prog_1_method_46_code
def yX0_isProved : MethodName := ⟨RX0, "isProved", "()Z"⟩
def dkwX0_isProved_0 : List UInt8 := [42, 182, 1, 5, 182, 1, 51, 172]
abbrev dktX0_isProved_0 : List UInt8 := dkwX0_isProved_0 ++ []
theorem dksX0_isProved_0 : cX0_isProved.data.toList.drop 0 = dktX0_isProved_0 := by decide +kernel
theorem dX0_isProved_0 : decode cX0_isProved 0 = .ok (.aload_n 0, 1) := dk_42 (dk_at dksX0_isProved_0 0 rfl rfl)
theorem dX0_isProved_1 : decode cX0_isProved 1 = .ok (.invokevirtual 261, 3) := dk_182 1 5 (dk_at dksX0_isProved_0 1 rfl rfl)
theorem dX0_isProved_4 : decode cX0_isProved 4 = .ok (.invokevirtual 307, 3) := dk_182 1 51 (dk_at dksX0_isProved_0 4 rfl rfl)
theorem dX0_isProved_7 : decode cX0_isProved 7 = .ok (.ireturn, 1) := dk_172 (dk_at dksX0_isProved_0 7 rfl rfl)
abbrev cX0_assume : ByteArray := prog_1_method_47_code
def yX0_assume : MethodName := ⟨RX0, "assume", "(II)I"⟩
def dkwX0_assume_6 : List UInt8 := [28, 183, 1, 62, 182, 0, 120, 87, 42, 25, 5, 42, 182, 1, 63, 182, 0, 124, 172]
abbrev dktX0_assume_6 : List UInt8 := dkwX0_assume_6 ++ []
def dkwX0_assume_5 : List UInt8 := [21, 4, 172, 42, 180, 0, 38, 182, 0, 115, 58, 5, 42, 180, 0, 38, 180, 0, 246, 187, 1, 60, 89, 27]
abbrev dktX0_assume_5 : List UInt8 := dkwX0_assume_5 ++ dktX0_assume_6
def dkwX0_assume_4 : List UInt8 := [16, 6, 162, 0, 7, 4, 167, 0, 4, 3, 184, 0, 152, 79, 184, 0, 139, 54, 4, 21, 4, 153, 0, 6]
abbrev dktX0_assume_4 : List UInt8 := dkwX0_assume_4 ++ dktX0_assume_5
def dkwX0_assume_3 : List UInt8 := [154, 0, 7, 4, 167, 0, 4, 3, 184, 0, 149, 79, 89, 4, 42, 180, 0, 38, 180, 0, 246, 182, 0, 72]
abbrev dktX0_assume_3 : List UInt8 := dkwX0_assume_3 ++ dktX0_assume_4
def dkwX0_assume_2 : List UInt8 := [154, 0, 31, 45, 180, 1, 9, 27, 46, 28, 184, 0, 199, 153, 0, 18, 42, 180, 0, 38, 27, 182, 1, 57]
abbrev dktX0_assume_2 : List UInt8 := dkwX0_assume_2 ++ dktX0_assume_3
def dkwX0_assume_1 : List UInt8 := [28, 182, 1, 41, 154, 0, 6, 16, 254, 172, 42, 182, 1, 5, 78, 5, 188, 10, 89, 3, 45, 182, 1, 54]
abbrev dktX0_assume_1 : List UInt8 := dkwX0_assume_1 ++ dktX0_assume_2
def dkwX0_assume_0 : List UInt8 := [42, 27, 182, 0, 102, 154, 0, 5, 2, 172, 42, 180, 0, 38, 180, 0, 95, 27, 182, 0, 106, 192, 0, 110]
abbrev dktX0_assume_0 : List UInt8 := dkwX0_assume_0 ++ dktX0_assume_1
theorem dksX0_assume_0 : cX0_assume.data.toList.drop 0 = dktX0_assume_0 := by decide +kernel
theorem dksX0_assume_1 : cX0_assume.data.toList.drop 24 = dktX0_assume_1 := dk_seg dksX0_assume_0 24 rfl rfl
theorem dksX0_assume_2 : cX0_assume.data.toList.drop 48 = dktX0_assume_2 := dk_seg dksX0_assume_1 24 rfl rfl
theorem dksX0_assume_3 : cX0_assume.data.toList.drop 72 = dktX0_assume_3 := dk_seg dksX0_assume_2 24 rfl rfl
theorem dksX0_assume_4 : cX0_assume.data.toList.drop 96 = dktX0_assume_4 := dk_seg dksX0_assume_3 24 rfl rfl
theorem dksX0_assume_5 : cX0_assume.data.toList.drop 120 = dktX0_assume_5 := dk_seg dksX0_assume_4 24 rfl rfl
theorem dksX0_assume_6 : cX0_assume.data.toList.drop 144 = dktX0_assume_6 := dk_seg dksX0_assume_5 24 rfl rfl
theorem dX0_assume_0 : decode cX0_assume 0 = .ok (.aload_n 0, 1) := dk_42 (dk_at dksX0_assume_0 0 rfl rfl)
theorem dX0_assume_1 : decode cX0_assume 1 = .ok (.iload_n 1, 1) := dk_27 (dk_at dksX0_assume_0 1 rfl rfl)
theorem dX0_assume_2 : decode cX0_assume 2 = .ok (.invokevirtual 102, 3) := dk_182 0 102 (dk_at dksX0_assume_0 2 rfl rfl)
theorem dX0_assume_5 : decode cX0_assume 5 = .ok (.ifCond .ne 5, 3) := dk_154 0 5 (dk_at dksX0_assume_0 5 rfl rfl)
theorem dX0_assume_8 : decode cX0_assume 8 = .ok (.iconst (-1), 1) := dk_2 (dk_at dksX0_assume_0 8 rfl rfl)
theorem dX0_assume_9 : decode cX0_assume 9 = .ok (.ireturn, 1) := dk_172 (dk_at dksX0_assume_0 9 rfl rfl)
theorem dX0_assume_10 : decode cX0_assume 10 = .ok (.aload_n 0, 1) := dk_42 (dk_at dksX0_assume_0 10 rfl rfl)
theorem dX0_assume_11 : decode cX0_assume 11 = .ok (.getfield 38, 3) := dk_180 0 38 (dk_at dksX0_assume_0 11 rfl rfl)
theorem dX0_assume_14 : decode cX0_assume 14 = .ok (.getfield 95, 3) := dk_180 0 95 (dk_at dksX0_assume_0 14 rfl rfl)
theorem dX0_assume_17 : decode cX0_assume 17 = .ok (.iload_n 1, 1) := dk_27 (dk_at dksX0_assume_0 17 rfl rfl)
theorem dX0_assume_18 : decode cX0_assume 18 = .ok (.invokevirtual 106, 3) := dk_182 0 106 (dk_at dksX0_assume_0 18 rfl rfl)
theorem dX0_assume_21 : decode cX0_assume 21 = .ok (.checkcast 110, 3) := dk_192 0 110 (dk_at dksX0_assume_0 21 rfl rfl)
theorem dX0_assume_24 : decode cX0_assume 24 = .ok (.iload_n 2, 1) := dk_28 (dk_at dksX0_assume_1 0 rfl rfl)
theorem dX0_assume_25 : decode cX0_assume 25 = .ok (.invokevirtual 297, 3) := dk_182 1 41 (dk_at dksX0_assume_1 1 rfl rfl)
theorem dX0_assume_28 : decode cX0_assume 28 = .ok (.ifCond .ne 6, 3) := dk_154 0 6 (dk_at dksX0_assume_1 4 rfl rfl)
theorem dX0_assume_31 : decode cX0_assume 31 = .ok (.bipush (-2), 2) := dk_16 254 (dk_at dksX0_assume_1 7 rfl rfl)
theorem dX0_assume_33 : decode cX0_assume 33 = .ok (.ireturn, 1) := dk_172 (dk_at dksX0_assume_1 9 rfl rfl)
theorem dX0_assume_34 : decode cX0_assume 34 = .ok (.aload_n 0, 1) := dk_42 (dk_at dksX0_assume_1 10 rfl rfl)
theorem dX0_assume_35 : decode cX0_assume 35 = .ok (.invokevirtual 261, 3) := dk_182 1 5 (dk_at dksX0_assume_1 11 rfl rfl)
theorem dX0_assume_38 : decode cX0_assume 38 = .ok (.astore_n 3, 1) := dk_78 (dk_at dksX0_assume_1 14 rfl rfl)
theorem dX0_assume_39 : decode cX0_assume 39 = .ok (.iconst 2, 1) := dk_5 (dk_at dksX0_assume_1 15 rfl rfl)
theorem dX0_assume_40 : decode cX0_assume 40 = .ok (.newarray .int, 2) := dk_188_10 (dk_at dksX0_assume_1 16 rfl rfl)
theorem dX0_assume_42 : decode cX0_assume 42 = .ok (.dup, 1) := dk_89 (dk_at dksX0_assume_1 18 rfl rfl)
theorem dX0_assume_43 : decode cX0_assume 43 = .ok (.iconst 0, 1) := dk_3 (dk_at dksX0_assume_1 19 rfl rfl)
theorem dX0_assume_44 : decode cX0_assume 44 = .ok (.aload_n 3, 1) := dk_45 (dk_at dksX0_assume_1 20 rfl rfl)
theorem dX0_assume_45 : decode cX0_assume 45 = .ok (.invokevirtual 310, 3) := dk_182 1 54 (dk_at dksX0_assume_1 21 rfl rfl)
theorem dX0_assume_48 : decode cX0_assume 48 = .ok (.ifCond .ne 31, 3) := dk_154 0 31 (dk_at dksX0_assume_2 0 rfl rfl)
theorem dX0_assume_51 : decode cX0_assume 51 = .ok (.aload_n 3, 1) := dk_45 (dk_at dksX0_assume_2 3 rfl rfl)
theorem dX0_assume_52 : decode cX0_assume 52 = .ok (.getfield 265, 3) := dk_180 1 9 (dk_at dksX0_assume_2 4 rfl rfl)
theorem dX0_assume_55 : decode cX0_assume 55 = .ok (.iload_n 1, 1) := dk_27 (dk_at dksX0_assume_2 7 rfl rfl)
theorem dX0_assume_56 : decode cX0_assume 56 = .ok (.iaload, 1) := dk_46 (dk_at dksX0_assume_2 8 rfl rfl)
theorem dX0_assume_57 : decode cX0_assume 57 = .ok (.iload_n 2, 1) := dk_28 (dk_at dksX0_assume_2 9 rfl rfl)
theorem dX0_assume_58 : decode cX0_assume 58 = .ok (.invokestatic 199, 3) := dk_184 0 199 (dk_at dksX0_assume_2 10 rfl rfl)
theorem dX0_assume_61 : decode cX0_assume 61 = .ok (.ifCond .eq 18, 3) := dk_153 0 18 (dk_at dksX0_assume_2 13 rfl rfl)
theorem dX0_assume_64 : decode cX0_assume 64 = .ok (.aload_n 0, 1) := dk_42 (dk_at dksX0_assume_2 16 rfl rfl)
theorem dX0_assume_65 : decode cX0_assume 65 = .ok (.getfield 38, 3) := dk_180 0 38 (dk_at dksX0_assume_2 17 rfl rfl)
theorem dX0_assume_68 : decode cX0_assume 68 = .ok (.iload_n 1, 1) := dk_27 (dk_at dksX0_assume_2 20 rfl rfl)
theorem dX0_assume_69 : decode cX0_assume 69 = .ok (.invokevirtual 313, 3) := dk_182 1 57 (dk_at dksX0_assume_2 21 rfl rfl)
theorem dX0_assume_72 : decode cX0_assume 72 = .ok (.ifCond .ne 7, 3) := dk_154 0 7 (dk_at dksX0_assume_3 0 rfl rfl)
theorem dX0_assume_75 : decode cX0_assume 75 = .ok (.iconst 1, 1) := dk_4 (dk_at dksX0_assume_3 3 rfl rfl)
theorem dX0_assume_76 : decode cX0_assume 76 = .ok (.goto 4, 3) := dk_167 0 4 (dk_at dksX0_assume_3 4 rfl rfl)
theorem dX0_assume_79 : decode cX0_assume 79 = .ok (.iconst 0, 1) := dk_3 (dk_at dksX0_assume_3 7 rfl rfl)
theorem dX0_assume_80 : decode cX0_assume 80 = .ok (.invokestatic 149, 3) := dk_184 0 149 (dk_at dksX0_assume_3 8 rfl rfl)
theorem dX0_assume_83 : decode cX0_assume 83 = .ok (.iastore, 1) := dk_79 (dk_at dksX0_assume_3 11 rfl rfl)
theorem dX0_assume_84 : decode cX0_assume 84 = .ok (.dup, 1) := dk_89 (dk_at dksX0_assume_3 12 rfl rfl)
theorem dX0_assume_85 : decode cX0_assume 85 = .ok (.iconst 1, 1) := dk_4 (dk_at dksX0_assume_3 13 rfl rfl)
theorem dX0_assume_86 : decode cX0_assume 86 = .ok (.aload_n 0, 1) := dk_42 (dk_at dksX0_assume_3 14 rfl rfl)
theorem dX0_assume_87 : decode cX0_assume 87 = .ok (.getfield 38, 3) := dk_180 0 38 (dk_at dksX0_assume_3 15 rfl rfl)
theorem dX0_assume_90 : decode cX0_assume 90 = .ok (.getfield 246, 3) := dk_180 0 246 (dk_at dksX0_assume_3 18 rfl rfl)
theorem dX0_assume_93 : decode cX0_assume 93 = .ok (.invokevirtual 72, 3) := dk_182 0 72 (dk_at dksX0_assume_3 21 rfl rfl)
theorem dX0_assume_96 : decode cX0_assume 96 = .ok (.bipush 6, 2) := dk_16 6 (dk_at dksX0_assume_4 0 rfl rfl)
theorem dX0_assume_98 : decode cX0_assume 98 = .ok (.if_icmp .ge 7, 3) := dk_162 0 7 (dk_at dksX0_assume_4 2 rfl rfl)
theorem dX0_assume_101 : decode cX0_assume 101 = .ok (.iconst 1, 1) := dk_4 (dk_at dksX0_assume_4 5 rfl rfl)
theorem dX0_assume_102 : decode cX0_assume 102 = .ok (.goto 4, 3) := dk_167 0 4 (dk_at dksX0_assume_4 6 rfl rfl)
theorem dX0_assume_105 : decode cX0_assume 105 = .ok (.iconst 0, 1) := dk_3 (dk_at dksX0_assume_4 9 rfl rfl)
theorem dX0_assume_106 : decode cX0_assume 106 = .ok (.invokestatic 152, 3) := dk_184 0 152 (dk_at dksX0_assume_4 10 rfl rfl)
theorem dX0_assume_109 : decode cX0_assume 109 = .ok (.iastore, 1) := dk_79 (dk_at dksX0_assume_4 13 rfl rfl)
theorem dX0_assume_110 : decode cX0_assume 110 = .ok (.invokestatic 139, 3) := dk_184 0 139 (dk_at dksX0_assume_4 14 rfl rfl)
theorem dX0_assume_113 : decode cX0_assume 113 = .ok (.istore 4, 2) := dk_54 4 (dk_at dksX0_assume_4 17 rfl rfl)
theorem dX0_assume_115 : decode cX0_assume 115 = .ok (.iload 4, 2) := dk_21 4 (dk_at dksX0_assume_4 19 rfl rfl)
theorem dX0_assume_117 : decode cX0_assume 117 = .ok (.ifCond .eq 6, 3) := dk_153 0 6 (dk_at dksX0_assume_4 21 rfl rfl)
theorem dX0_assume_120 : decode cX0_assume 120 = .ok (.iload 4, 2) := dk_21 4 (dk_at dksX0_assume_5 0 rfl rfl)
theorem dX0_assume_122 : decode cX0_assume 122 = .ok (.ireturn, 1) := dk_172 (dk_at dksX0_assume_5 2 rfl rfl)
theorem dX0_assume_123 : decode cX0_assume 123 = .ok (.aload_n 0, 1) := dk_42 (dk_at dksX0_assume_5 3 rfl rfl)
theorem dX0_assume_124 : decode cX0_assume 124 = .ok (.getfield 38, 3) := dk_180 0 38 (dk_at dksX0_assume_5 4 rfl rfl)
theorem dX0_assume_127 : decode cX0_assume 127 = .ok (.invokevirtual 115, 3) := dk_182 0 115 (dk_at dksX0_assume_5 7 rfl rfl)
theorem dX0_assume_130 : decode cX0_assume 130 = .ok (.astore 5, 2) := dk_58 5 (dk_at dksX0_assume_5 10 rfl rfl)
theorem dX0_assume_132 : decode cX0_assume 132 = .ok (.aload_n 0, 1) := dk_42 (dk_at dksX0_assume_5 12 rfl rfl)
theorem dX0_assume_133 : decode cX0_assume 133 = .ok (.getfield 38, 3) := dk_180 0 38 (dk_at dksX0_assume_5 13 rfl rfl)
theorem dX0_assume_136 : decode cX0_assume 136 = .ok (.getfield 246, 3) := dk_180 0 246 (dk_at dksX0_assume_5 16 rfl rfl)
theorem dX0_assume_139 : decode cX0_assume 139 = .ok (.new 316, 3) := dk_187 1 60 (dk_at dksX0_assume_5 19 rfl rfl)
theorem dX0_assume_142 : decode cX0_assume 142 = .ok (.dup, 1) := dk_89 (dk_at dksX0_assume_5 22 rfl rfl)
theorem dX0_assume_143 : decode cX0_assume 143 = .ok (.iload_n 1, 1) := dk_27 (dk_at dksX0_assume_5 23 rfl rfl)
theorem dX0_assume_144 : decode cX0_assume 144 = .ok (.iload_n 2, 1) := dk_28 (dk_at dksX0_assume_6 0 rfl rfl)
theorem dX0_assume_145 : decode cX0_assume 145 = .ok (.invokespecial 318, 3) := dk_183 1 62 (dk_at dksX0_assume_6 1 rfl rfl)
theorem dX0_assume_148 : decode cX0_assume 148 = .ok (.invokevirtual 120, 3) := dk_182 0 120 (dk_at dksX0_assume_6 4 rfl rfl)
theorem dX0_assume_151 : decode cX0_assume 151 = .ok (.pop, 1) := dk_87 (dk_at dksX0_assume_6 7 rfl rfl)
theorem dX0_assume_152 : decode cX0_assume 152 = .ok (.aload_n 0, 1) := dk_42 (dk_at dksX0_assume_6 8 rfl rfl)
theorem dX0_assume_153 : decode cX0_assume 153 = .ok (.aload 5, 2) := dk_25 5 (dk_at dksX0_assume_6 9 rfl rfl)
theorem dX0_assume_155 : decode cX0_assume 155 = .ok (.aload_n 0, 1) := dk_42 (dk_at dksX0_assume_6 11 rfl rfl)
theorem dX0_assume_156 : decode cX0_assume 156 = .ok (.invokevirtual 319, 3) := dk_182 1 63 (dk_at dksX0_assume_6 12 rfl rfl)
theorem dX0_assume_159 : decode cX0_assume 159 = .ok (.invokevirtual 124, 3) := dk_182 0 124 (dk_at dksX0_assume_6 15 rfl rfl)
theorem dX0_assume_162 : decode cX0_assume 162 = .ok (.ireturn, 1) := dk_172 (dk_at dksX0_assume_6 18 rfl rfl)
abbrev cX0_retract : ByteArray := prog_1_method_48_code
def yX0_retract : MethodName := ⟨RX0, "retract", "()I"⟩
def dkwX0_retract_2 : List UInt8 := [43, 42, 180, 0, 38, 180, 0, 246, 182, 0, 72, 182, 0, 124, 172]
abbrev dktX0_retract_2 : List UInt8 := dkwX0_retract_2 ++ []
def dkwX0_retract_1 : List UInt8 := [42, 180, 0, 38, 180, 0, 246, 42, 180, 0, 38, 180, 0, 246, 182, 0, 72, 4, 100, 182, 0, 234, 87, 42]
abbrev dktX0_retract_1 : List UInt8 := dkwX0_retract_1 ++ dktX0_retract_2
def dkwX0_retract_0 : List UInt8 := [42, 180, 0, 38, 180, 0, 246, 182, 0, 231, 153, 0, 6, 16, 253, 172, 42, 180, 0, 38, 182, 0, 115, 76]
abbrev dktX0_retract_0 : List UInt8 := dkwX0_retract_0 ++ dktX0_retract_1
theorem dksX0_retract_0 : cX0_retract.data.toList.drop 0 = dktX0_retract_0 := by decide +kernel
theorem dksX0_retract_1 : cX0_retract.data.toList.drop 24 = dktX0_retract_1 := dk_seg dksX0_retract_0 24 rfl rfl
theorem dksX0_retract_2 : cX0_retract.data.toList.drop 48 = dktX0_retract_2 := dk_seg dksX0_retract_1 24 rfl rfl
theorem dX0_retract_0 : decode cX0_retract 0 = .ok (.aload_n 0, 1) := dk_42 (dk_at dksX0_retract_0 0 rfl rfl)
theorem dX0_retract_1 : decode cX0_retract 1 = .ok (.getfield 38, 3) := dk_180 0 38 (dk_at dksX0_retract_0 1 rfl rfl)
theorem dX0_retract_4 : decode cX0_retract 4 = .ok (.getfield 246, 3) := dk_180 0 246 (dk_at dksX0_retract_0 4 rfl rfl)
theorem dX0_retract_7 : decode cX0_retract 7 = .ok (.invokevirtual 231, 3) := dk_182 0 231 (dk_at dksX0_retract_0 7 rfl rfl)
theorem dX0_retract_10 : decode cX0_retract 10 = .ok (.ifCond .eq 6, 3) := dk_153 0 6 (dk_at dksX0_retract_0 10 rfl rfl)
theorem dX0_retract_13 : decode cX0_retract 13 = .ok (.bipush (-3), 2) := dk_16 253 (dk_at dksX0_retract_0 13 rfl rfl)
theorem dX0_retract_15 : decode cX0_retract 15 = .ok (.ireturn, 1) := dk_172 (dk_at dksX0_retract_0 15 rfl rfl)
theorem dX0_retract_16 : decode cX0_retract 16 = .ok (.aload_n 0, 1) := dk_42 (dk_at dksX0_retract_0 16 rfl rfl)
theorem dX0_retract_17 : decode cX0_retract 17 = .ok (.getfield 38, 3) := dk_180 0 38 (dk_at dksX0_retract_0 17 rfl rfl)
theorem dX0_retract_20 : decode cX0_retract 20 = .ok (.invokevirtual 115, 3) := dk_182 0 115 (dk_at dksX0_retract_0 20 rfl rfl)
theorem dX0_retract_23 : decode cX0_retract 23 = .ok (.astore_n 1, 1) := dk_76 (dk_at dksX0_retract_0 23 rfl rfl)
theorem dX0_retract_24 : decode cX0_retract 24 = .ok (.aload_n 0, 1) := dk_42 (dk_at dksX0_retract_1 0 rfl rfl)
theorem dX0_retract_25 : decode cX0_retract 25 = .ok (.getfield 38, 3) := dk_180 0 38 (dk_at dksX0_retract_1 1 rfl rfl)
theorem dX0_retract_28 : decode cX0_retract 28 = .ok (.getfield 246, 3) := dk_180 0 246 (dk_at dksX0_retract_1 4 rfl rfl)
theorem dX0_retract_31 : decode cX0_retract 31 = .ok (.aload_n 0, 1) := dk_42 (dk_at dksX0_retract_1 7 rfl rfl)
theorem dX0_retract_32 : decode cX0_retract 32 = .ok (.getfield 38, 3) := dk_180 0 38 (dk_at dksX0_retract_1 8 rfl rfl)
theorem dX0_retract_35 : decode cX0_retract 35 = .ok (.getfield 246, 3) := dk_180 0 246 (dk_at dksX0_retract_1 11 rfl rfl)
theorem dX0_retract_38 : decode cX0_retract 38 = .ok (.invokevirtual 72, 3) := dk_182 0 72 (dk_at dksX0_retract_1 14 rfl rfl)
theorem dX0_retract_41 : decode cX0_retract 41 = .ok (.iconst 1, 1) := dk_4 (dk_at dksX0_retract_1 17 rfl rfl)
theorem dX0_retract_42 : decode cX0_retract 42 = .ok (.isub, 1) := dk_100 (dk_at dksX0_retract_1 18 rfl rfl)
theorem dX0_retract_43 : decode cX0_retract 43 = .ok (.invokevirtual 234, 3) := dk_182 0 234 (dk_at dksX0_retract_1 19 rfl rfl)
theorem dX0_retract_46 : decode cX0_retract 46 = .ok (.pop, 1) := dk_87 (dk_at dksX0_retract_1 22 rfl rfl)
theorem dX0_retract_47 : decode cX0_retract 47 = .ok (.aload_n 0, 1) := dk_42 (dk_at dksX0_retract_1 23 rfl rfl)
theorem dX0_retract_48 : decode cX0_retract 48 = .ok (.aload_n 1, 1) := dk_43 (dk_at dksX0_retract_2 0 rfl rfl)
theorem dX0_retract_49 : decode cX0_retract 49 = .ok (.aload_n 0, 1) := dk_42 (dk_at dksX0_retract_2 1 rfl rfl)
theorem dX0_retract_50 : decode cX0_retract 50 = .ok (.getfield 38, 3) := dk_180 0 38 (dk_at dksX0_retract_2 2 rfl rfl)
theorem dX0_retract_53 : decode cX0_retract 53 = .ok (.getfield 246, 3) := dk_180 0 246 (dk_at dksX0_retract_2 5 rfl rfl)
theorem dX0_retract_56 : decode cX0_retract 56 = .ok (.invokevirtual 72, 3) := dk_182 0 72 (dk_at dksX0_retract_2 8 rfl rfl)
theorem dX0_retract_59 : decode cX0_retract 59 = .ok (.invokevirtual 124, 3) := dk_182 0 124 (dk_at dksX0_retract_2 11 rfl rfl)
theorem dX0_retract_62 : decode cX0_retract 62 = .ok (.ireturn, 1) := dk_172 (dk_at dksX0_retract_2 14 rfl rfl)
abbrev cX0_assumption : ByteArray := prog_1_method_49_code
def yX0_assumption : MethodName := ⟨RX0, "assumption", "(IZ)I"⟩
def dkwX0_assumption_2 : List UInt8 := [167, 0, 7, 45, 180, 1, 67, 172]
abbrev dktX0_assumption_2 : List UInt8 := dkwX0_assumption_2 ++ []
def dkwX0_assumption_1 : List UInt8 := [180, 0, 38, 180, 0, 246, 27, 182, 0, 106, 192, 1, 60, 78, 28, 153, 0, 10, 45, 180, 1, 65]
abbrev dktX0_assumption_1 : List UInt8 := dkwX0_assumption_1 ++ dktX0_assumption_2
def dkwX0_assumption_0 : List UInt8 := [27, 3, 42, 180, 0, 38, 180, 0, 246, 182, 0, 72, 4, 100, 184, 0, 98, 154, 0, 5, 2, 172, 42]
abbrev dktX0_assumption_0 : List UInt8 := dkwX0_assumption_0 ++ dktX0_assumption_1
theorem dksX0_assumption_0 : cX0_assumption.data.toList.drop 0 = dktX0_assumption_0 := by decide +kernel
theorem dksX0_assumption_1 : cX0_assumption.data.toList.drop 23 = dktX0_assumption_1 := dk_seg dksX0_assumption_0 23 rfl rfl
theorem dksX0_assumption_2 : cX0_assumption.data.toList.drop 45 = dktX0_assumption_2 := dk_seg dksX0_assumption_1 22 rfl rfl
theorem dX0_assumption_0 : decode cX0_assumption 0 = .ok (.iload_n 1, 1) := dk_27 (dk_at dksX0_assumption_0 0 rfl rfl)
theorem dX0_assumption_1 : decode cX0_assumption 1 = .ok (.iconst 0, 1) := dk_3 (dk_at dksX0_assumption_0 1 rfl rfl)
theorem dX0_assumption_2 : decode cX0_assumption 2 = .ok (.aload_n 0, 1) := dk_42 (dk_at dksX0_assumption_0 2 rfl rfl)
theorem dX0_assumption_3 : decode cX0_assumption 3 = .ok (.getfield 38, 3) := dk_180 0 38 (dk_at dksX0_assumption_0 3 rfl rfl)
theorem dX0_assumption_6 : decode cX0_assumption 6 = .ok (.getfield 246, 3) := dk_180 0 246 (dk_at dksX0_assumption_0 6 rfl rfl)
theorem dX0_assumption_9 : decode cX0_assumption 9 = .ok (.invokevirtual 72, 3) := dk_182 0 72 (dk_at dksX0_assumption_0 9 rfl rfl)
theorem dX0_assumption_12 : decode cX0_assumption 12 = .ok (.iconst 1, 1) := dk_4 (dk_at dksX0_assumption_0 12 rfl rfl)
theorem dX0_assumption_13 : decode cX0_assumption 13 = .ok (.isub, 1) := dk_100 (dk_at dksX0_assumption_0 13 rfl rfl)
theorem dX0_assumption_14 : decode cX0_assumption 14 = .ok (.invokestatic 98, 3) := dk_184 0 98 (dk_at dksX0_assumption_0 14 rfl rfl)
theorem dX0_assumption_17 : decode cX0_assumption 17 = .ok (.ifCond .ne 5, 3) := dk_154 0 5 (dk_at dksX0_assumption_0 17 rfl rfl)
theorem dX0_assumption_20 : decode cX0_assumption 20 = .ok (.iconst (-1), 1) := dk_2 (dk_at dksX0_assumption_0 20 rfl rfl)
theorem dX0_assumption_21 : decode cX0_assumption 21 = .ok (.ireturn, 1) := dk_172 (dk_at dksX0_assumption_0 21 rfl rfl)
theorem dX0_assumption_22 : decode cX0_assumption 22 = .ok (.aload_n 0, 1) := dk_42 (dk_at dksX0_assumption_0 22 rfl rfl)
theorem dX0_assumption_23 : decode cX0_assumption 23 = .ok (.getfield 38, 3) := dk_180 0 38 (dk_at dksX0_assumption_1 0 rfl rfl)
theorem dX0_assumption_26 : decode cX0_assumption 26 = .ok (.getfield 246, 3) := dk_180 0 246 (dk_at dksX0_assumption_1 3 rfl rfl)
theorem dX0_assumption_29 : decode cX0_assumption 29 = .ok (.iload_n 1, 1) := dk_27 (dk_at dksX0_assumption_1 6 rfl rfl)
theorem dX0_assumption_30 : decode cX0_assumption 30 = .ok (.invokevirtual 106, 3) := dk_182 0 106 (dk_at dksX0_assumption_1 7 rfl rfl)
theorem dX0_assumption_33 : decode cX0_assumption 33 = .ok (.checkcast 316, 3) := dk_192 1 60 (dk_at dksX0_assumption_1 10 rfl rfl)
theorem dX0_assumption_36 : decode cX0_assumption 36 = .ok (.astore_n 3, 1) := dk_78 (dk_at dksX0_assumption_1 13 rfl rfl)
theorem dX0_assumption_37 : decode cX0_assumption 37 = .ok (.iload_n 2, 1) := dk_28 (dk_at dksX0_assumption_1 14 rfl rfl)
theorem dX0_assumption_38 : decode cX0_assumption 38 = .ok (.ifCond .eq 10, 3) := dk_153 0 10 (dk_at dksX0_assumption_1 15 rfl rfl)
theorem dX0_assumption_41 : decode cX0_assumption 41 = .ok (.aload_n 3, 1) := dk_45 (dk_at dksX0_assumption_1 18 rfl rfl)
theorem dX0_assumption_42 : decode cX0_assumption 42 = .ok (.getfield 321, 3) := dk_180 1 65 (dk_at dksX0_assumption_1 19 rfl rfl)
theorem dX0_assumption_45 : decode cX0_assumption 45 = .ok (.goto 7, 3) := dk_167 0 7 (dk_at dksX0_assumption_2 0 rfl rfl)
theorem dX0_assumption_48 : decode cX0_assumption 48 = .ok (.aload_n 3, 1) := dk_45 (dk_at dksX0_assumption_2 3 rfl rfl)
theorem dX0_assumption_49 : decode cX0_assumption 49 = .ok (.getfield 323, 3) := dk_180 1 67 (dk_at dksX0_assumption_2 4 rfl rfl)
theorem dX0_assumption_52 : decode cX0_assumption 52 = .ok (.ireturn, 1) := dk_172 (dk_at dksX0_assumption_2 7 rfl rfl)
abbrev cX0_blamed : ByteArray := prog_1_method_51_code
def yX0_blamed : MethodName := ⟨RX0, "blamed", "()I"⟩
def dkwX0_blamed_0 : List UInt8 := [42, 182, 1, 5, 182, 1, 54, 153, 0, 10, 42, 182, 1, 68, 167, 0, 5, 16, 253, 172]
abbrev dktX0_blamed_0 : List UInt8 := dkwX0_blamed_0 ++ []
theorem dksX0_blamed_0 : cX0_blamed.data.toList.drop 0 = dktX0_blamed_0 := by decide +kernel
theorem dX0_blamed_0 : decode cX0_blamed 0 = .ok (.aload_n 0, 1) := dk_42 (dk_at dksX0_blamed_0 0 rfl rfl)
theorem dX0_blamed_1 : decode cX0_blamed 1 = .ok (.invokevirtual 261, 3) := dk_182 1 5 (dk_at dksX0_blamed_0 1 rfl rfl)
theorem dX0_blamed_4 : decode cX0_blamed 4 = .ok (.invokevirtual 310, 3) := dk_182 1 54 (dk_at dksX0_blamed_0 4 rfl rfl)
theorem dX0_blamed_7 : decode cX0_blamed 7 = .ok (.ifCond .eq 10, 3) := dk_153 0 10 (dk_at dksX0_blamed_0 7 rfl rfl)
theorem dX0_blamed_10 : decode cX0_blamed 10 = .ok (.aload_n 0, 1) := dk_42 (dk_at dksX0_blamed_0 10 rfl rfl)
theorem dX0_blamed_11 : decode cX0_blamed 11 = .ok (.invokevirtual 324, 3) := dk_182 1 68 (dk_at dksX0_blamed_0 11 rfl rfl)
theorem dX0_blamed_14 : decode cX0_blamed 14 = .ok (.goto 5, 3) := dk_167 0 5 (dk_at dksX0_blamed_0 14 rfl rfl)
theorem dX0_blamed_17 : decode cX0_blamed 17 = .ok (.bipush (-3), 2) := dk_16 253 (dk_at dksX0_blamed_0 17 rfl rfl)
theorem dX0_blamed_19 : decode cX0_blamed 19 = .ok (.ireturn, 1) := dk_172 (dk_at dksX0_blamed_0 19 rfl rfl)
abbrev cX0_blames : ByteArray := prog_1_method_50_code
def yX0_blames : MethodName := ⟨RX0, "blames", "()I"⟩
def dkwX0_blames_2 : List UInt8 := [153, 0, 7, 29, 167, 0, 4, 27, 60, 132, 2, 1, 167, 255, 204, 27, 172]
abbrev dktX0_blames_2 : List UInt8 := dkwX0_blames_2 ++ []
def dkwX0_blames_1 : List UInt8 := [120, 2, 130, 126, 62, 187, 0, 249, 89, 42, 180, 0, 38, 183, 0, 251, 29, 182, 1, 1, 182, 1, 54]
abbrev dktX0_blames_1 : List UInt8 := dkwX0_blames_1 ++ dktX0_blames_2
def dkwX0_blames_0 : List UInt8 := [42, 182, 0, 254, 60, 3, 61, 28, 42, 180, 0, 38, 180, 0, 246, 182, 0, 72, 162, 0, 44, 27, 4, 28]
abbrev dktX0_blames_0 : List UInt8 := dkwX0_blames_0 ++ dktX0_blames_1
theorem dksX0_blames_0 : cX0_blames.data.toList.drop 0 = dktX0_blames_0 := by decide +kernel
theorem dksX0_blames_1 : cX0_blames.data.toList.drop 24 = dktX0_blames_1 := dk_seg dksX0_blames_0 24 rfl rfl
theorem dksX0_blames_2 : cX0_blames.data.toList.drop 47 = dktX0_blames_2 := dk_seg dksX0_blames_1 23 rfl rfl
theorem dX0_blames_0 : decode cX0_blames 0 = .ok (.aload_n 0, 1) := dk_42 (dk_at dksX0_blames_0 0 rfl rfl)
theorem dX0_blames_1 : decode cX0_blames 1 = .ok (.invokevirtual 254, 3) := dk_182 0 254 (dk_at dksX0_blames_0 1 rfl rfl)
theorem dX0_blames_4 : decode cX0_blames 4 = .ok (.istore_n 1, 1) := dk_60 (dk_at dksX0_blames_0 4 rfl rfl)
theorem dX0_blames_5 : decode cX0_blames 5 = .ok (.iconst 0, 1) := dk_3 (dk_at dksX0_blames_0 5 rfl rfl)
theorem dX0_blames_6 : decode cX0_blames 6 = .ok (.istore_n 2, 1) := dk_61 (dk_at dksX0_blames_0 6 rfl rfl)
theorem dX0_blames_7 : decode cX0_blames 7 = .ok (.iload_n 2, 1) := dk_28 (dk_at dksX0_blames_0 7 rfl rfl)
theorem dX0_blames_8 : decode cX0_blames 8 = .ok (.aload_n 0, 1) := dk_42 (dk_at dksX0_blames_0 8 rfl rfl)
theorem dX0_blames_9 : decode cX0_blames 9 = .ok (.getfield 38, 3) := dk_180 0 38 (dk_at dksX0_blames_0 9 rfl rfl)
theorem dX0_blames_12 : decode cX0_blames 12 = .ok (.getfield 246, 3) := dk_180 0 246 (dk_at dksX0_blames_0 12 rfl rfl)
theorem dX0_blames_15 : decode cX0_blames 15 = .ok (.invokevirtual 72, 3) := dk_182 0 72 (dk_at dksX0_blames_0 15 rfl rfl)
theorem dX0_blames_18 : decode cX0_blames 18 = .ok (.if_icmp .ge 44, 3) := dk_162 0 44 (dk_at dksX0_blames_0 18 rfl rfl)
theorem dX0_blames_21 : decode cX0_blames 21 = .ok (.iload_n 1, 1) := dk_27 (dk_at dksX0_blames_0 21 rfl rfl)
theorem dX0_blames_22 : decode cX0_blames 22 = .ok (.iconst 1, 1) := dk_4 (dk_at dksX0_blames_0 22 rfl rfl)
theorem dX0_blames_23 : decode cX0_blames 23 = .ok (.iload_n 2, 1) := dk_28 (dk_at dksX0_blames_0 23 rfl rfl)
theorem dX0_blames_24 : decode cX0_blames 24 = .ok (.ishl, 1) := dk_120 (dk_at dksX0_blames_1 0 rfl rfl)
theorem dX0_blames_25 : decode cX0_blames 25 = .ok (.iconst (-1), 1) := dk_2 (dk_at dksX0_blames_1 1 rfl rfl)
theorem dX0_blames_26 : decode cX0_blames 26 = .ok (.ixor, 1) := dk_130 (dk_at dksX0_blames_1 2 rfl rfl)
theorem dX0_blames_27 : decode cX0_blames 27 = .ok (.iand, 1) := dk_126 (dk_at dksX0_blames_1 3 rfl rfl)
theorem dX0_blames_28 : decode cX0_blames 28 = .ok (.istore_n 3, 1) := dk_62 (dk_at dksX0_blames_1 4 rfl rfl)
theorem dX0_blames_29 : decode cX0_blames 29 = .ok (.new 249, 3) := dk_187 0 249 (dk_at dksX0_blames_1 5 rfl rfl)
theorem dX0_blames_32 : decode cX0_blames 32 = .ok (.dup, 1) := dk_89 (dk_at dksX0_blames_1 8 rfl rfl)
theorem dX0_blames_33 : decode cX0_blames 33 = .ok (.aload_n 0, 1) := dk_42 (dk_at dksX0_blames_1 9 rfl rfl)
theorem dX0_blames_34 : decode cX0_blames 34 = .ok (.getfield 38, 3) := dk_180 0 38 (dk_at dksX0_blames_1 10 rfl rfl)
theorem dX0_blames_37 : decode cX0_blames 37 = .ok (.invokespecial 251, 3) := dk_183 0 251 (dk_at dksX0_blames_1 13 rfl rfl)
theorem dX0_blames_40 : decode cX0_blames 40 = .ok (.iload_n 3, 1) := dk_29 (dk_at dksX0_blames_1 16 rfl rfl)
theorem dX0_blames_41 : decode cX0_blames 41 = .ok (.invokevirtual 257, 3) := dk_182 1 1 (dk_at dksX0_blames_1 17 rfl rfl)
theorem dX0_blames_44 : decode cX0_blames 44 = .ok (.invokevirtual 310, 3) := dk_182 1 54 (dk_at dksX0_blames_1 20 rfl rfl)
theorem dX0_blames_47 : decode cX0_blames 47 = .ok (.ifCond .eq 7, 3) := dk_153 0 7 (dk_at dksX0_blames_2 0 rfl rfl)
theorem dX0_blames_50 : decode cX0_blames 50 = .ok (.iload_n 3, 1) := dk_29 (dk_at dksX0_blames_2 3 rfl rfl)
theorem dX0_blames_51 : decode cX0_blames 51 = .ok (.goto 4, 3) := dk_167 0 4 (dk_at dksX0_blames_2 4 rfl rfl)
theorem dX0_blames_54 : decode cX0_blames 54 = .ok (.iload_n 1, 1) := dk_27 (dk_at dksX0_blames_2 7 rfl rfl)
theorem dX0_blames_55 : decode cX0_blames 55 = .ok (.istore_n 1, 1) := dk_60 (dk_at dksX0_blames_2 8 rfl rfl)
theorem dX0_blames_56 : decode cX0_blames 56 = .ok (.iinc 2 1, 3) := dk_132 2 1 (dk_at dksX0_blames_2 9 rfl rfl)
theorem dX0_blames_59 : decode cX0_blames 59 = .ok (.goto (-52), 3) := dk_167 255 204 (dk_at dksX0_blames_2 12 rfl rfl)
theorem dX0_blames_62 : decode cX0_blames 62 = .ok (.iload_n 1, 1) := dk_27 (dk_at dksX0_blames_2 15 rfl rfl)
theorem dX0_blames_63 : decode cX0_blames 63 = .ok (.ireturn, 1) := dk_172 (dk_at dksX0_blames_2 16 rfl rfl)
abbrev cX0_learn : ByteArray := prog_1_method_53_code
def yX0_learn : MethodName := ⟨RX0, "learn", "()I"⟩
def dkwX0_learn_11 : List UInt8 := [172]
abbrev dktX0_learn_11 : List UInt8 := dkwX0_learn_11 ++ []
def dkwX0_learn_10 : List UInt8 := [100, 182, 0, 234, 87, 167, 255, 216, 42, 25, 4, 42, 180, 0, 38, 180, 0, 246, 182, 0, 72, 182, 0, 124]
abbrev dktX0_learn_10 : List UInt8 := dkwX0_learn_10 ++ dktX0_learn_11
def dkwX0_learn_9 : List UInt8 := [184, 1, 76, 164, 0, 29, 42, 180, 0, 38, 180, 0, 246, 42, 180, 0, 38, 180, 0, 246, 182, 0, 72, 4]
abbrev dktX0_learn_9 : List UInt8 := dkwX0_learn_9 ++ dktX0_learn_10
def dkwX0_learn_8 : List UInt8 := [187, 1, 71, 89, 45, 183, 1, 73, 182, 0, 205, 54, 5, 42, 180, 0, 38, 180, 0, 246, 182, 0, 72, 27]
abbrev dktX0_learn_8 : List UInt8 := dkwX0_learn_8 ++ dktX0_learn_9
def dkwX0_learn_7 : List UInt8 := [180, 1, 65, 79, 132, 4, 1, 167, 255, 191, 42, 180, 0, 38, 182, 0, 115, 58, 4, 42, 180, 0, 38]
abbrev dktX0_learn_7 : List UInt8 := dkwX0_learn_7 ++ dktX0_learn_8
def dkwX0_learn_6 : List UInt8 := [182, 0, 106, 192, 1, 60, 180, 1, 67, 42, 180, 0, 38, 180, 0, 246, 21, 4, 182, 0, 106, 192, 1, 60]
abbrev dktX0_learn_6 : List UInt8 := dkwX0_learn_6 ++ dktX0_learn_7
def dkwX0_learn_5 : List UInt8 := [162, 0, 56, 27, 21, 4, 184, 0, 199, 153, 0, 41, 45, 42, 180, 0, 38, 180, 0, 246, 21, 4]
abbrev dktX0_learn_5 : List UInt8 := dkwX0_learn_5 ++ dktX0_learn_6
def dkwX0_learn_4 : List UInt8 := [16, 251, 79, 132, 4, 1, 167, 255, 240, 3, 54, 4, 21, 4, 42, 180, 0, 38, 180, 0, 246, 182, 0, 72]
abbrev dktX0_learn_4 : List UInt8 := dkwX0_learn_4 ++ dktX0_learn_5
def dkwX0_learn_3 : List UInt8 := [153, 0, 5, 28, 172, 16, 6, 188, 10, 78, 3, 54, 4, 21, 4, 16, 6, 162, 0, 15, 45, 21, 4]
abbrev dktX0_learn_3 : List UInt8 := dkwX0_learn_3 ++ dktX0_learn_4
def dkwX0_learn_2 : List UInt8 := [182, 0, 72, 16, 30, 162, 0, 7, 4, 167, 0, 4, 3, 184, 0, 152, 79, 184, 0, 139, 61, 28]
abbrev dktX0_learn_2 : List UInt8 := dkwX0_learn_2 ++ dktX0_learn_3
def dkwX0_learn_1 : List UInt8 := [27, 153, 0, 7, 4, 167, 0, 4, 3, 184, 0, 149, 79, 89, 4, 42, 180, 0, 38, 180, 0, 68]
abbrev dktX0_learn_1 : List UInt8 := dkwX0_learn_1 ++ dktX0_learn_2
def dkwX0_learn_0 : List UInt8 := [42, 182, 1, 5, 182, 1, 54, 153, 0, 10, 42, 182, 1, 68, 167, 0, 4, 3, 60, 5, 188, 10, 89, 3]
abbrev dktX0_learn_0 : List UInt8 := dkwX0_learn_0 ++ dktX0_learn_1
theorem dksX0_learn_0 : cX0_learn.data.toList.drop 0 = dktX0_learn_0 := by decide +kernel
theorem dksX0_learn_1 : cX0_learn.data.toList.drop 24 = dktX0_learn_1 := dk_seg dksX0_learn_0 24 rfl rfl
theorem dksX0_learn_2 : cX0_learn.data.toList.drop 46 = dktX0_learn_2 := dk_seg dksX0_learn_1 22 rfl rfl
theorem dksX0_learn_3 : cX0_learn.data.toList.drop 68 = dktX0_learn_3 := dk_seg dksX0_learn_2 22 rfl rfl
theorem dksX0_learn_4 : cX0_learn.data.toList.drop 91 = dktX0_learn_4 := dk_seg dksX0_learn_3 23 rfl rfl
theorem dksX0_learn_5 : cX0_learn.data.toList.drop 115 = dktX0_learn_5 := dk_seg dksX0_learn_4 24 rfl rfl
theorem dksX0_learn_6 : cX0_learn.data.toList.drop 137 = dktX0_learn_6 := dk_seg dksX0_learn_5 22 rfl rfl
theorem dksX0_learn_7 : cX0_learn.data.toList.drop 161 = dktX0_learn_7 := dk_seg dksX0_learn_6 24 rfl rfl
theorem dksX0_learn_8 : cX0_learn.data.toList.drop 184 = dktX0_learn_8 := dk_seg dksX0_learn_7 23 rfl rfl
theorem dksX0_learn_9 : cX0_learn.data.toList.drop 208 = dktX0_learn_9 := dk_seg dksX0_learn_8 24 rfl rfl
theorem dksX0_learn_10 : cX0_learn.data.toList.drop 232 = dktX0_learn_10 := dk_seg dksX0_learn_9 24 rfl rfl
theorem dksX0_learn_11 : cX0_learn.data.toList.drop 256 = dktX0_learn_11 := dk_seg dksX0_learn_10 24 rfl rfl
theorem dX0_learn_0 : decode cX0_learn 0 = .ok (.aload_n 0, 1) := dk_42 (dk_at dksX0_learn_0 0 rfl rfl)
theorem dX0_learn_1 : decode cX0_learn 1 = .ok (.invokevirtual 261, 3) := dk_182 1 5 (dk_at dksX0_learn_0 1 rfl rfl)
theorem dX0_learn_4 : decode cX0_learn 4 = .ok (.invokevirtual 310, 3) := dk_182 1 54 (dk_at dksX0_learn_0 4 rfl rfl)
theorem dX0_learn_7 : decode cX0_learn 7 = .ok (.ifCond .eq 10, 3) := dk_153 0 10 (dk_at dksX0_learn_0 7 rfl rfl)
theorem dX0_learn_10 : decode cX0_learn 10 = .ok (.aload_n 0, 1) := dk_42 (dk_at dksX0_learn_0 10 rfl rfl)
theorem dX0_learn_11 : decode cX0_learn 11 = .ok (.invokevirtual 324, 3) := dk_182 1 68 (dk_at dksX0_learn_0 11 rfl rfl)
theorem dX0_learn_14 : decode cX0_learn 14 = .ok (.goto 4, 3) := dk_167 0 4 (dk_at dksX0_learn_0 14 rfl rfl)
theorem dX0_learn_17 : decode cX0_learn 17 = .ok (.iconst 0, 1) := dk_3 (dk_at dksX0_learn_0 17 rfl rfl)
theorem dX0_learn_18 : decode cX0_learn 18 = .ok (.istore_n 1, 1) := dk_60 (dk_at dksX0_learn_0 18 rfl rfl)
theorem dX0_learn_19 : decode cX0_learn 19 = .ok (.iconst 2, 1) := dk_5 (dk_at dksX0_learn_0 19 rfl rfl)
theorem dX0_learn_20 : decode cX0_learn 20 = .ok (.newarray .int, 2) := dk_188_10 (dk_at dksX0_learn_0 20 rfl rfl)
theorem dX0_learn_22 : decode cX0_learn 22 = .ok (.dup, 1) := dk_89 (dk_at dksX0_learn_0 22 rfl rfl)
theorem dX0_learn_23 : decode cX0_learn 23 = .ok (.iconst 0, 1) := dk_3 (dk_at dksX0_learn_0 23 rfl rfl)
theorem dX0_learn_24 : decode cX0_learn 24 = .ok (.iload_n 1, 1) := dk_27 (dk_at dksX0_learn_1 0 rfl rfl)
theorem dX0_learn_25 : decode cX0_learn 25 = .ok (.ifCond .eq 7, 3) := dk_153 0 7 (dk_at dksX0_learn_1 1 rfl rfl)
theorem dX0_learn_28 : decode cX0_learn 28 = .ok (.iconst 1, 1) := dk_4 (dk_at dksX0_learn_1 4 rfl rfl)
theorem dX0_learn_29 : decode cX0_learn 29 = .ok (.goto 4, 3) := dk_167 0 4 (dk_at dksX0_learn_1 5 rfl rfl)
theorem dX0_learn_32 : decode cX0_learn 32 = .ok (.iconst 0, 1) := dk_3 (dk_at dksX0_learn_1 8 rfl rfl)
theorem dX0_learn_33 : decode cX0_learn 33 = .ok (.invokestatic 149, 3) := dk_184 0 149 (dk_at dksX0_learn_1 9 rfl rfl)
theorem dX0_learn_36 : decode cX0_learn 36 = .ok (.iastore, 1) := dk_79 (dk_at dksX0_learn_1 12 rfl rfl)
theorem dX0_learn_37 : decode cX0_learn 37 = .ok (.dup, 1) := dk_89 (dk_at dksX0_learn_1 13 rfl rfl)
theorem dX0_learn_38 : decode cX0_learn 38 = .ok (.iconst 1, 1) := dk_4 (dk_at dksX0_learn_1 14 rfl rfl)
theorem dX0_learn_39 : decode cX0_learn 39 = .ok (.aload_n 0, 1) := dk_42 (dk_at dksX0_learn_1 15 rfl rfl)
theorem dX0_learn_40 : decode cX0_learn 40 = .ok (.getfield 38, 3) := dk_180 0 38 (dk_at dksX0_learn_1 16 rfl rfl)
theorem dX0_learn_43 : decode cX0_learn 43 = .ok (.getfield 68, 3) := dk_180 0 68 (dk_at dksX0_learn_1 19 rfl rfl)
theorem dX0_learn_46 : decode cX0_learn 46 = .ok (.invokevirtual 72, 3) := dk_182 0 72 (dk_at dksX0_learn_2 0 rfl rfl)
theorem dX0_learn_49 : decode cX0_learn 49 = .ok (.bipush 30, 2) := dk_16 30 (dk_at dksX0_learn_2 3 rfl rfl)
theorem dX0_learn_51 : decode cX0_learn 51 = .ok (.if_icmp .ge 7, 3) := dk_162 0 7 (dk_at dksX0_learn_2 5 rfl rfl)
theorem dX0_learn_54 : decode cX0_learn 54 = .ok (.iconst 1, 1) := dk_4 (dk_at dksX0_learn_2 8 rfl rfl)
theorem dX0_learn_55 : decode cX0_learn 55 = .ok (.goto 4, 3) := dk_167 0 4 (dk_at dksX0_learn_2 9 rfl rfl)
theorem dX0_learn_58 : decode cX0_learn 58 = .ok (.iconst 0, 1) := dk_3 (dk_at dksX0_learn_2 12 rfl rfl)
theorem dX0_learn_59 : decode cX0_learn 59 = .ok (.invokestatic 152, 3) := dk_184 0 152 (dk_at dksX0_learn_2 13 rfl rfl)
theorem dX0_learn_62 : decode cX0_learn 62 = .ok (.iastore, 1) := dk_79 (dk_at dksX0_learn_2 16 rfl rfl)
theorem dX0_learn_63 : decode cX0_learn 63 = .ok (.invokestatic 139, 3) := dk_184 0 139 (dk_at dksX0_learn_2 17 rfl rfl)
theorem dX0_learn_66 : decode cX0_learn 66 = .ok (.istore_n 2, 1) := dk_61 (dk_at dksX0_learn_2 20 rfl rfl)
theorem dX0_learn_67 : decode cX0_learn 67 = .ok (.iload_n 2, 1) := dk_28 (dk_at dksX0_learn_2 21 rfl rfl)
theorem dX0_learn_68 : decode cX0_learn 68 = .ok (.ifCond .eq 5, 3) := dk_153 0 5 (dk_at dksX0_learn_3 0 rfl rfl)
theorem dX0_learn_71 : decode cX0_learn 71 = .ok (.iload_n 2, 1) := dk_28 (dk_at dksX0_learn_3 3 rfl rfl)
theorem dX0_learn_72 : decode cX0_learn 72 = .ok (.ireturn, 1) := dk_172 (dk_at dksX0_learn_3 4 rfl rfl)
theorem dX0_learn_73 : decode cX0_learn 73 = .ok (.bipush 6, 2) := dk_16 6 (dk_at dksX0_learn_3 5 rfl rfl)
theorem dX0_learn_75 : decode cX0_learn 75 = .ok (.newarray .int, 2) := dk_188_10 (dk_at dksX0_learn_3 7 rfl rfl)
theorem dX0_learn_77 : decode cX0_learn 77 = .ok (.astore_n 3, 1) := dk_78 (dk_at dksX0_learn_3 9 rfl rfl)
theorem dX0_learn_78 : decode cX0_learn 78 = .ok (.iconst 0, 1) := dk_3 (dk_at dksX0_learn_3 10 rfl rfl)
theorem dX0_learn_79 : decode cX0_learn 79 = .ok (.istore 4, 2) := dk_54 4 (dk_at dksX0_learn_3 11 rfl rfl)
theorem dX0_learn_81 : decode cX0_learn 81 = .ok (.iload 4, 2) := dk_21 4 (dk_at dksX0_learn_3 13 rfl rfl)
theorem dX0_learn_83 : decode cX0_learn 83 = .ok (.bipush 6, 2) := dk_16 6 (dk_at dksX0_learn_3 15 rfl rfl)
theorem dX0_learn_85 : decode cX0_learn 85 = .ok (.if_icmp .ge 15, 3) := dk_162 0 15 (dk_at dksX0_learn_3 17 rfl rfl)
theorem dX0_learn_88 : decode cX0_learn 88 = .ok (.aload_n 3, 1) := dk_45 (dk_at dksX0_learn_3 20 rfl rfl)
theorem dX0_learn_89 : decode cX0_learn 89 = .ok (.iload 4, 2) := dk_21 4 (dk_at dksX0_learn_3 21 rfl rfl)
theorem dX0_learn_91 : decode cX0_learn 91 = .ok (.bipush (-5), 2) := dk_16 251 (dk_at dksX0_learn_4 0 rfl rfl)
theorem dX0_learn_93 : decode cX0_learn 93 = .ok (.iastore, 1) := dk_79 (dk_at dksX0_learn_4 2 rfl rfl)
theorem dX0_learn_94 : decode cX0_learn 94 = .ok (.iinc 4 1, 3) := dk_132 4 1 (dk_at dksX0_learn_4 3 rfl rfl)
theorem dX0_learn_97 : decode cX0_learn 97 = .ok (.goto (-16), 3) := dk_167 255 240 (dk_at dksX0_learn_4 6 rfl rfl)
theorem dX0_learn_100 : decode cX0_learn 100 = .ok (.iconst 0, 1) := dk_3 (dk_at dksX0_learn_4 9 rfl rfl)
theorem dX0_learn_101 : decode cX0_learn 101 = .ok (.istore 4, 2) := dk_54 4 (dk_at dksX0_learn_4 10 rfl rfl)
theorem dX0_learn_103 : decode cX0_learn 103 = .ok (.iload 4, 2) := dk_21 4 (dk_at dksX0_learn_4 12 rfl rfl)
theorem dX0_learn_105 : decode cX0_learn 105 = .ok (.aload_n 0, 1) := dk_42 (dk_at dksX0_learn_4 14 rfl rfl)
theorem dX0_learn_106 : decode cX0_learn 106 = .ok (.getfield 38, 3) := dk_180 0 38 (dk_at dksX0_learn_4 15 rfl rfl)
theorem dX0_learn_109 : decode cX0_learn 109 = .ok (.getfield 246, 3) := dk_180 0 246 (dk_at dksX0_learn_4 18 rfl rfl)
theorem dX0_learn_112 : decode cX0_learn 112 = .ok (.invokevirtual 72, 3) := dk_182 0 72 (dk_at dksX0_learn_4 21 rfl rfl)
theorem dX0_learn_115 : decode cX0_learn 115 = .ok (.if_icmp .ge 56, 3) := dk_162 0 56 (dk_at dksX0_learn_5 0 rfl rfl)
theorem dX0_learn_118 : decode cX0_learn 118 = .ok (.iload_n 1, 1) := dk_27 (dk_at dksX0_learn_5 3 rfl rfl)
theorem dX0_learn_119 : decode cX0_learn 119 = .ok (.iload 4, 2) := dk_21 4 (dk_at dksX0_learn_5 4 rfl rfl)
theorem dX0_learn_121 : decode cX0_learn 121 = .ok (.invokestatic 199, 3) := dk_184 0 199 (dk_at dksX0_learn_5 6 rfl rfl)
theorem dX0_learn_124 : decode cX0_learn 124 = .ok (.ifCond .eq 41, 3) := dk_153 0 41 (dk_at dksX0_learn_5 9 rfl rfl)
theorem dX0_learn_127 : decode cX0_learn 127 = .ok (.aload_n 3, 1) := dk_45 (dk_at dksX0_learn_5 12 rfl rfl)
theorem dX0_learn_128 : decode cX0_learn 128 = .ok (.aload_n 0, 1) := dk_42 (dk_at dksX0_learn_5 13 rfl rfl)
theorem dX0_learn_129 : decode cX0_learn 129 = .ok (.getfield 38, 3) := dk_180 0 38 (dk_at dksX0_learn_5 14 rfl rfl)
theorem dX0_learn_132 : decode cX0_learn 132 = .ok (.getfield 246, 3) := dk_180 0 246 (dk_at dksX0_learn_5 17 rfl rfl)
theorem dX0_learn_135 : decode cX0_learn 135 = .ok (.iload 4, 2) := dk_21 4 (dk_at dksX0_learn_5 20 rfl rfl)
theorem dX0_learn_137 : decode cX0_learn 137 = .ok (.invokevirtual 106, 3) := dk_182 0 106 (dk_at dksX0_learn_6 0 rfl rfl)
theorem dX0_learn_140 : decode cX0_learn 140 = .ok (.checkcast 316, 3) := dk_192 1 60 (dk_at dksX0_learn_6 3 rfl rfl)
theorem dX0_learn_143 : decode cX0_learn 143 = .ok (.getfield 323, 3) := dk_180 1 67 (dk_at dksX0_learn_6 6 rfl rfl)
theorem dX0_learn_146 : decode cX0_learn 146 = .ok (.aload_n 0, 1) := dk_42 (dk_at dksX0_learn_6 9 rfl rfl)
theorem dX0_learn_147 : decode cX0_learn 147 = .ok (.getfield 38, 3) := dk_180 0 38 (dk_at dksX0_learn_6 10 rfl rfl)
theorem dX0_learn_150 : decode cX0_learn 150 = .ok (.getfield 246, 3) := dk_180 0 246 (dk_at dksX0_learn_6 13 rfl rfl)
theorem dX0_learn_153 : decode cX0_learn 153 = .ok (.iload 4, 2) := dk_21 4 (dk_at dksX0_learn_6 16 rfl rfl)
theorem dX0_learn_155 : decode cX0_learn 155 = .ok (.invokevirtual 106, 3) := dk_182 0 106 (dk_at dksX0_learn_6 18 rfl rfl)
theorem dX0_learn_158 : decode cX0_learn 158 = .ok (.checkcast 316, 3) := dk_192 1 60 (dk_at dksX0_learn_6 21 rfl rfl)
theorem dX0_learn_161 : decode cX0_learn 161 = .ok (.getfield 321, 3) := dk_180 1 65 (dk_at dksX0_learn_7 0 rfl rfl)
theorem dX0_learn_164 : decode cX0_learn 164 = .ok (.iastore, 1) := dk_79 (dk_at dksX0_learn_7 3 rfl rfl)
theorem dX0_learn_165 : decode cX0_learn 165 = .ok (.iinc 4 1, 3) := dk_132 4 1 (dk_at dksX0_learn_7 4 rfl rfl)
theorem dX0_learn_168 : decode cX0_learn 168 = .ok (.goto (-65), 3) := dk_167 255 191 (dk_at dksX0_learn_7 7 rfl rfl)
theorem dX0_learn_171 : decode cX0_learn 171 = .ok (.aload_n 0, 1) := dk_42 (dk_at dksX0_learn_7 10 rfl rfl)
theorem dX0_learn_172 : decode cX0_learn 172 = .ok (.getfield 38, 3) := dk_180 0 38 (dk_at dksX0_learn_7 11 rfl rfl)
theorem dX0_learn_175 : decode cX0_learn 175 = .ok (.invokevirtual 115, 3) := dk_182 0 115 (dk_at dksX0_learn_7 14 rfl rfl)
theorem dX0_learn_178 : decode cX0_learn 178 = .ok (.astore 4, 2) := dk_58 4 (dk_at dksX0_learn_7 17 rfl rfl)
theorem dX0_learn_180 : decode cX0_learn 180 = .ok (.aload_n 0, 1) := dk_42 (dk_at dksX0_learn_7 19 rfl rfl)
theorem dX0_learn_181 : decode cX0_learn 181 = .ok (.getfield 38, 3) := dk_180 0 38 (dk_at dksX0_learn_7 20 rfl rfl)
theorem dX0_learn_184 : decode cX0_learn 184 = .ok (.new 327, 3) := dk_187 1 71 (dk_at dksX0_learn_8 0 rfl rfl)
theorem dX0_learn_187 : decode cX0_learn 187 = .ok (.dup, 1) := dk_89 (dk_at dksX0_learn_8 3 rfl rfl)
theorem dX0_learn_188 : decode cX0_learn 188 = .ok (.aload_n 3, 1) := dk_45 (dk_at dksX0_learn_8 4 rfl rfl)
theorem dX0_learn_189 : decode cX0_learn 189 = .ok (.invokespecial 329, 3) := dk_183 1 73 (dk_at dksX0_learn_8 5 rfl rfl)
theorem dX0_learn_192 : decode cX0_learn 192 = .ok (.invokevirtual 205, 3) := dk_182 0 205 (dk_at dksX0_learn_8 8 rfl rfl)
theorem dX0_learn_195 : decode cX0_learn 195 = .ok (.istore 5, 2) := dk_54 5 (dk_at dksX0_learn_8 11 rfl rfl)
theorem dX0_learn_197 : decode cX0_learn 197 = .ok (.aload_n 0, 1) := dk_42 (dk_at dksX0_learn_8 13 rfl rfl)
theorem dX0_learn_198 : decode cX0_learn 198 = .ok (.getfield 38, 3) := dk_180 0 38 (dk_at dksX0_learn_8 14 rfl rfl)
theorem dX0_learn_201 : decode cX0_learn 201 = .ok (.getfield 246, 3) := dk_180 0 246 (dk_at dksX0_learn_8 17 rfl rfl)
theorem dX0_learn_204 : decode cX0_learn 204 = .ok (.invokevirtual 72, 3) := dk_182 0 72 (dk_at dksX0_learn_8 20 rfl rfl)
theorem dX0_learn_207 : decode cX0_learn 207 = .ok (.iload_n 1, 1) := dk_27 (dk_at dksX0_learn_8 23 rfl rfl)
theorem dX0_learn_208 : decode cX0_learn 208 = .ok (.invokestatic 332, 3) := dk_184 1 76 (dk_at dksX0_learn_9 0 rfl rfl)
theorem dX0_learn_211 : decode cX0_learn 211 = .ok (.if_icmp .le 29, 3) := dk_164 0 29 (dk_at dksX0_learn_9 3 rfl rfl)
theorem dX0_learn_214 : decode cX0_learn 214 = .ok (.aload_n 0, 1) := dk_42 (dk_at dksX0_learn_9 6 rfl rfl)
theorem dX0_learn_215 : decode cX0_learn 215 = .ok (.getfield 38, 3) := dk_180 0 38 (dk_at dksX0_learn_9 7 rfl rfl)
theorem dX0_learn_218 : decode cX0_learn 218 = .ok (.getfield 246, 3) := dk_180 0 246 (dk_at dksX0_learn_9 10 rfl rfl)
theorem dX0_learn_221 : decode cX0_learn 221 = .ok (.aload_n 0, 1) := dk_42 (dk_at dksX0_learn_9 13 rfl rfl)
theorem dX0_learn_222 : decode cX0_learn 222 = .ok (.getfield 38, 3) := dk_180 0 38 (dk_at dksX0_learn_9 14 rfl rfl)
theorem dX0_learn_225 : decode cX0_learn 225 = .ok (.getfield 246, 3) := dk_180 0 246 (dk_at dksX0_learn_9 17 rfl rfl)
theorem dX0_learn_228 : decode cX0_learn 228 = .ok (.invokevirtual 72, 3) := dk_182 0 72 (dk_at dksX0_learn_9 20 rfl rfl)
theorem dX0_learn_231 : decode cX0_learn 231 = .ok (.iconst 1, 1) := dk_4 (dk_at dksX0_learn_9 23 rfl rfl)
theorem dX0_learn_232 : decode cX0_learn 232 = .ok (.isub, 1) := dk_100 (dk_at dksX0_learn_10 0 rfl rfl)
theorem dX0_learn_233 : decode cX0_learn 233 = .ok (.invokevirtual 234, 3) := dk_182 0 234 (dk_at dksX0_learn_10 1 rfl rfl)
theorem dX0_learn_236 : decode cX0_learn 236 = .ok (.pop, 1) := dk_87 (dk_at dksX0_learn_10 4 rfl rfl)
theorem dX0_learn_237 : decode cX0_learn 237 = .ok (.goto (-40), 3) := dk_167 255 216 (dk_at dksX0_learn_10 5 rfl rfl)
theorem dX0_learn_240 : decode cX0_learn 240 = .ok (.aload_n 0, 1) := dk_42 (dk_at dksX0_learn_10 8 rfl rfl)
theorem dX0_learn_241 : decode cX0_learn 241 = .ok (.aload 4, 2) := dk_25 4 (dk_at dksX0_learn_10 9 rfl rfl)
theorem dX0_learn_243 : decode cX0_learn 243 = .ok (.aload_n 0, 1) := dk_42 (dk_at dksX0_learn_10 11 rfl rfl)
theorem dX0_learn_244 : decode cX0_learn 244 = .ok (.getfield 38, 3) := dk_180 0 38 (dk_at dksX0_learn_10 12 rfl rfl)
theorem dX0_learn_247 : decode cX0_learn 247 = .ok (.getfield 246, 3) := dk_180 0 246 (dk_at dksX0_learn_10 15 rfl rfl)
theorem dX0_learn_250 : decode cX0_learn 250 = .ok (.invokevirtual 72, 3) := dk_182 0 72 (dk_at dksX0_learn_10 18 rfl rfl)
theorem dX0_learn_253 : decode cX0_learn 253 = .ok (.invokevirtual 124, 3) := dk_182 0 124 (dk_at dksX0_learn_10 21 rfl rfl)
theorem dX0_learn_256 : decode cX0_learn 256 = .ok (.ireturn, 1) := dk_172 (dk_at dksX0_learn_11 0 rfl rfl)
abbrev cX0_kept : ByteArray := prog_1_method_52_code
def yX0_kept : MethodName := ⟨RX0, "kept", "(I)I"⟩
def dkwX0_kept_1 : List UInt8 := [96, 61, 132, 3, 1, 167, 255, 233, 27, 172]
abbrev dktX0_kept_1 : List UInt8 := dkwX0_kept_1 ++ []
def dkwX0_kept_0 : List UInt8 := [3, 60, 3, 61, 3, 62, 29, 16, 6, 162, 0, 23, 26, 29, 184, 0, 199, 153, 0, 9, 28, 60, 29, 4]
abbrev dktX0_kept_0 : List UInt8 := dkwX0_kept_0 ++ dktX0_kept_1
theorem dksX0_kept_0 : cX0_kept.data.toList.drop 0 = dktX0_kept_0 := by decide +kernel
theorem dksX0_kept_1 : cX0_kept.data.toList.drop 24 = dktX0_kept_1 := dk_seg dksX0_kept_0 24 rfl rfl
theorem dX0_kept_0 : decode cX0_kept 0 = .ok (.iconst 0, 1) := dk_3 (dk_at dksX0_kept_0 0 rfl rfl)
theorem dX0_kept_1 : decode cX0_kept 1 = .ok (.istore_n 1, 1) := dk_60 (dk_at dksX0_kept_0 1 rfl rfl)
theorem dX0_kept_2 : decode cX0_kept 2 = .ok (.iconst 0, 1) := dk_3 (dk_at dksX0_kept_0 2 rfl rfl)
theorem dX0_kept_3 : decode cX0_kept 3 = .ok (.istore_n 2, 1) := dk_61 (dk_at dksX0_kept_0 3 rfl rfl)
theorem dX0_kept_4 : decode cX0_kept 4 = .ok (.iconst 0, 1) := dk_3 (dk_at dksX0_kept_0 4 rfl rfl)
theorem dX0_kept_5 : decode cX0_kept 5 = .ok (.istore_n 3, 1) := dk_62 (dk_at dksX0_kept_0 5 rfl rfl)
theorem dX0_kept_6 : decode cX0_kept 6 = .ok (.iload_n 3, 1) := dk_29 (dk_at dksX0_kept_0 6 rfl rfl)
theorem dX0_kept_7 : decode cX0_kept 7 = .ok (.bipush 6, 2) := dk_16 6 (dk_at dksX0_kept_0 7 rfl rfl)
theorem dX0_kept_9 : decode cX0_kept 9 = .ok (.if_icmp .ge 23, 3) := dk_162 0 23 (dk_at dksX0_kept_0 9 rfl rfl)
theorem dX0_kept_12 : decode cX0_kept 12 = .ok (.iload_n 0, 1) := dk_26 (dk_at dksX0_kept_0 12 rfl rfl)
theorem dX0_kept_13 : decode cX0_kept 13 = .ok (.iload_n 3, 1) := dk_29 (dk_at dksX0_kept_0 13 rfl rfl)
theorem dX0_kept_14 : decode cX0_kept 14 = .ok (.invokestatic 199, 3) := dk_184 0 199 (dk_at dksX0_kept_0 14 rfl rfl)
theorem dX0_kept_17 : decode cX0_kept 17 = .ok (.ifCond .eq 9, 3) := dk_153 0 9 (dk_at dksX0_kept_0 17 rfl rfl)
theorem dX0_kept_20 : decode cX0_kept 20 = .ok (.iload_n 2, 1) := dk_28 (dk_at dksX0_kept_0 20 rfl rfl)
theorem dX0_kept_21 : decode cX0_kept 21 = .ok (.istore_n 1, 1) := dk_60 (dk_at dksX0_kept_0 21 rfl rfl)
theorem dX0_kept_22 : decode cX0_kept 22 = .ok (.iload_n 3, 1) := dk_29 (dk_at dksX0_kept_0 22 rfl rfl)
theorem dX0_kept_23 : decode cX0_kept 23 = .ok (.iconst 1, 1) := dk_4 (dk_at dksX0_kept_0 23 rfl rfl)
theorem dX0_kept_24 : decode cX0_kept 24 = .ok (.iadd, 1) := dk_96 (dk_at dksX0_kept_1 0 rfl rfl)
theorem dX0_kept_25 : decode cX0_kept 25 = .ok (.istore_n 2, 1) := dk_61 (dk_at dksX0_kept_1 1 rfl rfl)
theorem dX0_kept_26 : decode cX0_kept 26 = .ok (.iinc 3 1, 3) := dk_132 3 1 (dk_at dksX0_kept_1 2 rfl rfl)
theorem dX0_kept_29 : decode cX0_kept 29 = .ok (.goto (-23), 3) := dk_167 255 233 (dk_at dksX0_kept_1 5 rfl rfl)
theorem dX0_kept_32 : decode cX0_kept 32 = .ok (.iload_n 1, 1) := dk_27 (dk_at dksX0_kept_1 8 rfl rfl)
theorem dX0_kept_33 : decode cX0_kept 33 = .ok (.ireturn, 1) := dk_172 (dk_at dksX0_kept_1 9 rfl rfl)
abbrev cX0_solutions : ByteArray := prog_1_method_54_code
def yX0_solutions : MethodName := ⟨RX0, "solutions", "()I"⟩
def dkwX0_solutions_0 : List UInt8 := [187, 1, 79, 89, 42, 180, 0, 38, 42, 182, 1, 81, 183, 1, 84, 182, 1, 85, 172]
abbrev dktX0_solutions_0 : List UInt8 := dkwX0_solutions_0 ++ []
theorem dksX0_solutions_0 : cX0_solutions.data.toList.drop 0 = dktX0_solutions_0 := by decide +kernel
theorem dX0_solutions_0 : decode cX0_solutions 0 = .ok (.new 335, 3) := dk_187 1 79 (dk_at dksX0_solutions_0 0 rfl rfl)
theorem dX0_solutions_3 : decode cX0_solutions 3 = .ok (.dup, 1) := dk_89 (dk_at dksX0_solutions_0 3 rfl rfl)
theorem dX0_solutions_4 : decode cX0_solutions 4 = .ok (.aload_n 0, 1) := dk_42 (dk_at dksX0_solutions_0 4 rfl rfl)
theorem dX0_solutions_5 : decode cX0_solutions 5 = .ok (.getfield 38, 3) := dk_180 0 38 (dk_at dksX0_solutions_0 5 rfl rfl)
theorem dX0_solutions_8 : decode cX0_solutions 8 = .ok (.aload_n 0, 1) := dk_42 (dk_at dksX0_solutions_0 8 rfl rfl)
theorem dX0_solutions_9 : decode cX0_solutions 9 = .ok (.invokevirtual 337, 3) := dk_182 1 81 (dk_at dksX0_solutions_0 9 rfl rfl)
theorem dX0_solutions_12 : decode cX0_solutions 12 = .ok (.invokespecial 340, 3) := dk_183 1 84 (dk_at dksX0_solutions_0 12 rfl rfl)
theorem dX0_solutions_15 : decode cX0_solutions 15 = .ok (.invokevirtual 341, 3) := dk_182 1 85 (dk_at dksX0_solutions_0 15 rfl rfl)
theorem dX0_solutions_18 : decode cX0_solutions 18 = .ok (.ireturn, 1) := dk_172 (dk_at dksX0_solutions_0 18 rfl rfl)
abbrev cX0_allRules : ByteArray := prog_1_method_12_code
def yX0_allRules : MethodName := ⟨RX0, "allRules", "()I"⟩
def dkwX0_allRules_0 : List UInt8 := [4, 42, 180, 0, 38, 180, 0, 68, 182, 0, 72, 120, 4, 100, 172]
abbrev dktX0_allRules_0 : List UInt8 := dkwX0_allRules_0 ++ []
theorem dksX0_allRules_0 : cX0_allRules.data.toList.drop 0 = dktX0_allRules_0 := by decide +kernel
theorem dX0_allRules_0 : decode cX0_allRules 0 = .ok (.iconst 1, 1) := dk_4 (dk_at dksX0_allRules_0 0 rfl rfl)
theorem dX0_allRules_1 : decode cX0_allRules 1 = .ok (.aload_n 0, 1) := dk_42 (dk_at dksX0_allRules_0 1 rfl rfl)
theorem dX0_allRules_2 : decode cX0_allRules 2 = .ok (.getfield 38, 3) := dk_180 0 38 (dk_at dksX0_allRules_0 2 rfl rfl)
theorem dX0_allRules_5 : decode cX0_allRules 5 = .ok (.getfield 68, 3) := dk_180 0 68 (dk_at dksX0_allRules_0 5 rfl rfl)
theorem dX0_allRules_8 : decode cX0_allRules 8 = .ok (.invokevirtual 72, 3) := dk_182 0 72 (dk_at dksX0_allRules_0 8 rfl rfl)
theorem dX0_allRules_11 : decode cX0_allRules 11 = .ok (.ishl, 1) := dk_120 (dk_at dksX0_allRules_0 11 rfl rfl)
theorem dX0_allRules_12 : decode cX0_allRules 12 = .ok (.iconst 1, 1) := dk_4 (dk_at dksX0_allRules_0 12 rfl rfl)
theorem dX0_allRules_13 : decode cX0_allRules 13 = .ok (.isub, 1) := dk_100 (dk_at dksX0_allRules_0 13 rfl rfl)
theorem dX0_allRules_14 : decode cX0_allRules 14 = .ok (.ireturn, 1) := dk_172 (dk_at dksX0_allRules_0 14 rfl rfl)
abbrev cX0_best : ByteArray := prog_1_method_55_code
def yX0_best : MethodName := ⟨RX0, "best", "(I)I"⟩
def dkwX0_best_1 : List UInt8 := [183, 0, 80, 77, 44, 182, 0, 83, 153, 0, 11, 44, 27, 182, 1, 88, 167, 0, 5, 16, 253, 172]
abbrev dktX0_best_1 : List UInt8 := dkwX0_best_1 ++ []
def dkwX0_best_0 : List UInt8 := [42, 27, 182, 0, 102, 154, 0, 5, 2, 172, 187, 0, 78, 89, 42, 180, 0, 38, 42, 182, 1, 81]
abbrev dktX0_best_0 : List UInt8 := dkwX0_best_0 ++ dktX0_best_1
theorem dksX0_best_0 : cX0_best.data.toList.drop 0 = dktX0_best_0 := by decide +kernel
theorem dksX0_best_1 : cX0_best.data.toList.drop 22 = dktX0_best_1 := dk_seg dksX0_best_0 22 rfl rfl
theorem dX0_best_0 : decode cX0_best 0 = .ok (.aload_n 0, 1) := dk_42 (dk_at dksX0_best_0 0 rfl rfl)
theorem dX0_best_1 : decode cX0_best 1 = .ok (.iload_n 1, 1) := dk_27 (dk_at dksX0_best_0 1 rfl rfl)
theorem dX0_best_2 : decode cX0_best 2 = .ok (.invokevirtual 102, 3) := dk_182 0 102 (dk_at dksX0_best_0 2 rfl rfl)
theorem dX0_best_5 : decode cX0_best 5 = .ok (.ifCond .ne 5, 3) := dk_154 0 5 (dk_at dksX0_best_0 5 rfl rfl)
theorem dX0_best_8 : decode cX0_best 8 = .ok (.iconst (-1), 1) := dk_2 (dk_at dksX0_best_0 8 rfl rfl)
theorem dX0_best_9 : decode cX0_best 9 = .ok (.ireturn, 1) := dk_172 (dk_at dksX0_best_0 9 rfl rfl)
theorem dX0_best_10 : decode cX0_best 10 = .ok (.new 78, 3) := dk_187 0 78 (dk_at dksX0_best_0 10 rfl rfl)
theorem dX0_best_13 : decode cX0_best 13 = .ok (.dup, 1) := dk_89 (dk_at dksX0_best_0 13 rfl rfl)
theorem dX0_best_14 : decode cX0_best 14 = .ok (.aload_n 0, 1) := dk_42 (dk_at dksX0_best_0 14 rfl rfl)
theorem dX0_best_15 : decode cX0_best 15 = .ok (.getfield 38, 3) := dk_180 0 38 (dk_at dksX0_best_0 15 rfl rfl)
theorem dX0_best_18 : decode cX0_best 18 = .ok (.aload_n 0, 1) := dk_42 (dk_at dksX0_best_0 18 rfl rfl)
theorem dX0_best_19 : decode cX0_best 19 = .ok (.invokevirtual 337, 3) := dk_182 1 81 (dk_at dksX0_best_0 19 rfl rfl)
theorem dX0_best_22 : decode cX0_best 22 = .ok (.invokespecial 80, 3) := dk_183 0 80 (dk_at dksX0_best_1 0 rfl rfl)
theorem dX0_best_25 : decode cX0_best 25 = .ok (.astore_n 2, 1) := dk_77 (dk_at dksX0_best_1 3 rfl rfl)
theorem dX0_best_26 : decode cX0_best 26 = .ok (.aload_n 2, 1) := dk_44 (dk_at dksX0_best_1 4 rfl rfl)
theorem dX0_best_27 : decode cX0_best 27 = .ok (.invokevirtual 83, 3) := dk_182 0 83 (dk_at dksX0_best_1 5 rfl rfl)
theorem dX0_best_30 : decode cX0_best 30 = .ok (.ifCond .eq 11, 3) := dk_153 0 11 (dk_at dksX0_best_1 8 rfl rfl)
theorem dX0_best_33 : decode cX0_best 33 = .ok (.aload_n 2, 1) := dk_44 (dk_at dksX0_best_1 11 rfl rfl)
theorem dX0_best_34 : decode cX0_best 34 = .ok (.iload_n 1, 1) := dk_27 (dk_at dksX0_best_1 12 rfl rfl)
theorem dX0_best_35 : decode cX0_best 35 = .ok (.invokevirtual 344, 3) := dk_182 1 88 (dk_at dksX0_best_1 13 rfl rfl)
theorem dX0_best_38 : decode cX0_best 38 = .ok (.goto 5, 3) := dk_167 0 5 (dk_at dksX0_best_1 16 rfl rfl)
theorem dX0_best_41 : decode cX0_best 41 = .ok (.bipush (-3), 2) := dk_16 253 (dk_at dksX0_best_1 19 rfl rfl)
theorem dX0_best_43 : decode cX0_best 43 = .ok (.ireturn, 1) := dk_172 (dk_at dksX0_best_1 21 rfl rfl)
abbrev cX0_hinders : ByteArray := prog_1_method_57_code
def yX0_hinders : MethodName := ⟨RX0, "hinders", "(I)I"⟩
def dkwX0_hinders_1 : List UInt8 := [16, 254, 172]
abbrev dktX0_hinders_1 : List UInt8 := dkwX0_hinders_1 ++ []
def dkwX0_hinders_0 : List UInt8 := [42, 27, 182, 1, 92, 153, 0, 18, 187, 1, 95, 89, 42, 27, 183, 1, 97, 182, 1, 100, 167, 0, 5]
abbrev dktX0_hinders_0 : List UInt8 := dkwX0_hinders_0 ++ dktX0_hinders_1
theorem dksX0_hinders_0 : cX0_hinders.data.toList.drop 0 = dktX0_hinders_0 := by decide +kernel
theorem dksX0_hinders_1 : cX0_hinders.data.toList.drop 23 = dktX0_hinders_1 := dk_seg dksX0_hinders_0 23 rfl rfl
theorem dX0_hinders_0 : decode cX0_hinders 0 = .ok (.aload_n 0, 1) := dk_42 (dk_at dksX0_hinders_0 0 rfl rfl)
theorem dX0_hinders_1 : decode cX0_hinders 1 = .ok (.iload_n 1, 1) := dk_27 (dk_at dksX0_hinders_0 1 rfl rfl)
theorem dX0_hinders_2 : decode cX0_hinders 2 = .ok (.invokevirtual 348, 3) := dk_182 1 92 (dk_at dksX0_hinders_0 2 rfl rfl)
theorem dX0_hinders_5 : decode cX0_hinders 5 = .ok (.ifCond .eq 18, 3) := dk_153 0 18 (dk_at dksX0_hinders_0 5 rfl rfl)
theorem dX0_hinders_8 : decode cX0_hinders 8 = .ok (.new 351, 3) := dk_187 1 95 (dk_at dksX0_hinders_0 8 rfl rfl)
theorem dX0_hinders_11 : decode cX0_hinders 11 = .ok (.dup, 1) := dk_89 (dk_at dksX0_hinders_0 11 rfl rfl)
theorem dX0_hinders_12 : decode cX0_hinders 12 = .ok (.aload_n 0, 1) := dk_42 (dk_at dksX0_hinders_0 12 rfl rfl)
theorem dX0_hinders_13 : decode cX0_hinders 13 = .ok (.iload_n 1, 1) := dk_27 (dk_at dksX0_hinders_0 13 rfl rfl)
theorem dX0_hinders_14 : decode cX0_hinders 14 = .ok (.invokespecial 353, 3) := dk_183 1 97 (dk_at dksX0_hinders_0 14 rfl rfl)
theorem dX0_hinders_17 : decode cX0_hinders 17 = .ok (.invokevirtual 356, 3) := dk_182 1 100 (dk_at dksX0_hinders_0 17 rfl rfl)
theorem dX0_hinders_20 : decode cX0_hinders 20 = .ok (.goto 5, 3) := dk_167 0 5 (dk_at dksX0_hinders_0 20 rfl rfl)
theorem dX0_hinders_23 : decode cX0_hinders 23 = .ok (.bipush (-2), 2) := dk_16 254 (dk_at dksX0_hinders_1 0 rfl rfl)
theorem dX0_hinders_25 : decode cX0_hinders 25 = .ok (.ireturn, 1) := dk_172 (dk_at dksX0_hinders_1 2 rfl rfl)
abbrev cX0_areStates : ByteArray := prog_1_method_56_code
def yX0_areStates : MethodName := ⟨RX0, "areStates", "(I)Z"⟩
def dkwX0_areStates_3 : List UInt8 := [132, 2, 1, 167, 255, 207, 4, 172]
abbrev dktX0_areStates_3 : List UInt8 := dkwX0_areStates_3 ++ []
def dkwX0_areStates_2 : List UInt8 := [182, 0, 106, 192, 0, 110, 27, 178, 1, 89, 28, 46, 108, 16, 10, 112, 182, 1, 41, 154, 0, 5, 3, 172]
abbrev dktX0_areStates_2 : List UInt8 := dkwX0_areStates_2 ++ dktX0_areStates_3
def dkwX0_areStates_1 : List UInt8 := [3, 61, 28, 42, 180, 0, 38, 180, 0, 95, 182, 0, 72, 162, 0, 41, 42, 180, 0, 38, 180, 0, 95, 28]
abbrev dktX0_areStates_1 : List UInt8 := dkwX0_areStates_1 ++ dktX0_areStates_2
def dkwX0_areStates_0 : List UInt8 := [27, 155, 0, 21, 27, 178, 1, 89, 42, 180, 0, 38, 180, 0, 95, 182, 0, 72, 46, 161, 0, 5, 3, 172]
abbrev dktX0_areStates_0 : List UInt8 := dkwX0_areStates_0 ++ dktX0_areStates_1
theorem dksX0_areStates_0 : cX0_areStates.data.toList.drop 0 = dktX0_areStates_0 := by decide +kernel
theorem dksX0_areStates_1 : cX0_areStates.data.toList.drop 24 = dktX0_areStates_1 := dk_seg dksX0_areStates_0 24 rfl rfl
theorem dksX0_areStates_2 : cX0_areStates.data.toList.drop 48 = dktX0_areStates_2 := dk_seg dksX0_areStates_1 24 rfl rfl
theorem dksX0_areStates_3 : cX0_areStates.data.toList.drop 72 = dktX0_areStates_3 := dk_seg dksX0_areStates_2 24 rfl rfl
theorem dX0_areStates_0 : decode cX0_areStates 0 = .ok (.iload_n 1, 1) := dk_27 (dk_at dksX0_areStates_0 0 rfl rfl)
theorem dX0_areStates_1 : decode cX0_areStates 1 = .ok (.ifCond .lt 21, 3) := dk_155 0 21 (dk_at dksX0_areStates_0 1 rfl rfl)
theorem dX0_areStates_4 : decode cX0_areStates 4 = .ok (.iload_n 1, 1) := dk_27 (dk_at dksX0_areStates_0 4 rfl rfl)
theorem dX0_areStates_5 : decode cX0_areStates 5 = .ok (.getstatic 345, 3) := dk_178 1 89 (dk_at dksX0_areStates_0 5 rfl rfl)
theorem dX0_areStates_8 : decode cX0_areStates 8 = .ok (.aload_n 0, 1) := dk_42 (dk_at dksX0_areStates_0 8 rfl rfl)
theorem dX0_areStates_9 : decode cX0_areStates 9 = .ok (.getfield 38, 3) := dk_180 0 38 (dk_at dksX0_areStates_0 9 rfl rfl)
theorem dX0_areStates_12 : decode cX0_areStates 12 = .ok (.getfield 95, 3) := dk_180 0 95 (dk_at dksX0_areStates_0 12 rfl rfl)
theorem dX0_areStates_15 : decode cX0_areStates 15 = .ok (.invokevirtual 72, 3) := dk_182 0 72 (dk_at dksX0_areStates_0 15 rfl rfl)
theorem dX0_areStates_18 : decode cX0_areStates 18 = .ok (.iaload, 1) := dk_46 (dk_at dksX0_areStates_0 18 rfl rfl)
theorem dX0_areStates_19 : decode cX0_areStates 19 = .ok (.if_icmp .lt 5, 3) := dk_161 0 5 (dk_at dksX0_areStates_0 19 rfl rfl)
theorem dX0_areStates_22 : decode cX0_areStates 22 = .ok (.iconst 0, 1) := dk_3 (dk_at dksX0_areStates_0 22 rfl rfl)
theorem dX0_areStates_23 : decode cX0_areStates 23 = .ok (.ireturn, 1) := dk_172 (dk_at dksX0_areStates_0 23 rfl rfl)
theorem dX0_areStates_24 : decode cX0_areStates 24 = .ok (.iconst 0, 1) := dk_3 (dk_at dksX0_areStates_1 0 rfl rfl)
theorem dX0_areStates_25 : decode cX0_areStates 25 = .ok (.istore_n 2, 1) := dk_61 (dk_at dksX0_areStates_1 1 rfl rfl)
theorem dX0_areStates_26 : decode cX0_areStates 26 = .ok (.iload_n 2, 1) := dk_28 (dk_at dksX0_areStates_1 2 rfl rfl)
theorem dX0_areStates_27 : decode cX0_areStates 27 = .ok (.aload_n 0, 1) := dk_42 (dk_at dksX0_areStates_1 3 rfl rfl)
theorem dX0_areStates_28 : decode cX0_areStates 28 = .ok (.getfield 38, 3) := dk_180 0 38 (dk_at dksX0_areStates_1 4 rfl rfl)
theorem dX0_areStates_31 : decode cX0_areStates 31 = .ok (.getfield 95, 3) := dk_180 0 95 (dk_at dksX0_areStates_1 7 rfl rfl)
theorem dX0_areStates_34 : decode cX0_areStates 34 = .ok (.invokevirtual 72, 3) := dk_182 0 72 (dk_at dksX0_areStates_1 10 rfl rfl)
theorem dX0_areStates_37 : decode cX0_areStates 37 = .ok (.if_icmp .ge 41, 3) := dk_162 0 41 (dk_at dksX0_areStates_1 13 rfl rfl)
theorem dX0_areStates_40 : decode cX0_areStates 40 = .ok (.aload_n 0, 1) := dk_42 (dk_at dksX0_areStates_1 16 rfl rfl)
theorem dX0_areStates_41 : decode cX0_areStates 41 = .ok (.getfield 38, 3) := dk_180 0 38 (dk_at dksX0_areStates_1 17 rfl rfl)
theorem dX0_areStates_44 : decode cX0_areStates 44 = .ok (.getfield 95, 3) := dk_180 0 95 (dk_at dksX0_areStates_1 20 rfl rfl)
theorem dX0_areStates_47 : decode cX0_areStates 47 = .ok (.iload_n 2, 1) := dk_28 (dk_at dksX0_areStates_1 23 rfl rfl)
theorem dX0_areStates_48 : decode cX0_areStates 48 = .ok (.invokevirtual 106, 3) := dk_182 0 106 (dk_at dksX0_areStates_2 0 rfl rfl)
theorem dX0_areStates_51 : decode cX0_areStates 51 = .ok (.checkcast 110, 3) := dk_192 0 110 (dk_at dksX0_areStates_2 3 rfl rfl)
theorem dX0_areStates_54 : decode cX0_areStates 54 = .ok (.iload_n 1, 1) := dk_27 (dk_at dksX0_areStates_2 6 rfl rfl)
theorem dX0_areStates_55 : decode cX0_areStates 55 = .ok (.getstatic 345, 3) := dk_178 1 89 (dk_at dksX0_areStates_2 7 rfl rfl)
theorem dX0_areStates_58 : decode cX0_areStates 58 = .ok (.iload_n 2, 1) := dk_28 (dk_at dksX0_areStates_2 10 rfl rfl)
theorem dX0_areStates_59 : decode cX0_areStates 59 = .ok (.iaload, 1) := dk_46 (dk_at dksX0_areStates_2 11 rfl rfl)
theorem dX0_areStates_60 : decode cX0_areStates 60 = .ok (.idiv, 1) := dk_108 (dk_at dksX0_areStates_2 12 rfl rfl)
theorem dX0_areStates_61 : decode cX0_areStates 61 = .ok (.bipush 10, 2) := dk_16 10 (dk_at dksX0_areStates_2 13 rfl rfl)
theorem dX0_areStates_63 : decode cX0_areStates 63 = .ok (.irem, 1) := dk_112 (dk_at dksX0_areStates_2 15 rfl rfl)
theorem dX0_areStates_64 : decode cX0_areStates 64 = .ok (.invokevirtual 297, 3) := dk_182 1 41 (dk_at dksX0_areStates_2 16 rfl rfl)
theorem dX0_areStates_67 : decode cX0_areStates 67 = .ok (.ifCond .ne 5, 3) := dk_154 0 5 (dk_at dksX0_areStates_2 19 rfl rfl)
theorem dX0_areStates_70 : decode cX0_areStates 70 = .ok (.iconst 0, 1) := dk_3 (dk_at dksX0_areStates_2 22 rfl rfl)
theorem dX0_areStates_71 : decode cX0_areStates 71 = .ok (.ireturn, 1) := dk_172 (dk_at dksX0_areStates_2 23 rfl rfl)
theorem dX0_areStates_72 : decode cX0_areStates 72 = .ok (.iinc 2 1, 3) := dk_132 2 1 (dk_at dksX0_areStates_3 0 rfl rfl)
theorem dX0_areStates_75 : decode cX0_areStates 75 = .ok (.goto (-49), 3) := dk_167 255 207 (dk_at dksX0_areStates_3 3 rfl rfl)
theorem dX0_areStates_78 : decode cX0_areStates 78 = .ok (.iconst 1, 1) := dk_4 (dk_at dksX0_areStates_3 6 rfl rfl)
theorem dX0_areStates_79 : decode cX0_areStates 79 = .ok (.ireturn, 1) := dk_172 (dk_at dksX0_areStates_3 7 rfl rfl)
abbrev cX0_without : ByteArray := prog_1_method_58_code
def yX0_without : MethodName := ⟨RX0, "without", "(I)I"⟩
def dkwX0_without_1 : List UInt8 := [130, 126, 183, 1, 84, 182, 1, 85, 167, 0, 4, 2, 172]
abbrev dktX0_without_1 : List UInt8 := dkwX0_without_1 ++ []
def dkwX0_without_0 : List UInt8 := [42, 27, 182, 0, 237, 153, 0, 30, 187, 1, 79, 89, 42, 180, 0, 38, 42, 182, 1, 81, 4, 27, 120, 2]
abbrev dktX0_without_0 : List UInt8 := dkwX0_without_0 ++ dktX0_without_1
theorem dksX0_without_0 : cX0_without.data.toList.drop 0 = dktX0_without_0 := by decide +kernel
theorem dksX0_without_1 : cX0_without.data.toList.drop 24 = dktX0_without_1 := dk_seg dksX0_without_0 24 rfl rfl
theorem dX0_without_0 : decode cX0_without 0 = .ok (.aload_n 0, 1) := dk_42 (dk_at dksX0_without_0 0 rfl rfl)
theorem dX0_without_1 : decode cX0_without 1 = .ok (.iload_n 1, 1) := dk_27 (dk_at dksX0_without_0 1 rfl rfl)
theorem dX0_without_2 : decode cX0_without 2 = .ok (.invokevirtual 237, 3) := dk_182 0 237 (dk_at dksX0_without_0 2 rfl rfl)
theorem dX0_without_5 : decode cX0_without 5 = .ok (.ifCond .eq 30, 3) := dk_153 0 30 (dk_at dksX0_without_0 5 rfl rfl)
theorem dX0_without_8 : decode cX0_without 8 = .ok (.new 335, 3) := dk_187 1 79 (dk_at dksX0_without_0 8 rfl rfl)
theorem dX0_without_11 : decode cX0_without 11 = .ok (.dup, 1) := dk_89 (dk_at dksX0_without_0 11 rfl rfl)
theorem dX0_without_12 : decode cX0_without 12 = .ok (.aload_n 0, 1) := dk_42 (dk_at dksX0_without_0 12 rfl rfl)
theorem dX0_without_13 : decode cX0_without 13 = .ok (.getfield 38, 3) := dk_180 0 38 (dk_at dksX0_without_0 13 rfl rfl)
theorem dX0_without_16 : decode cX0_without 16 = .ok (.aload_n 0, 1) := dk_42 (dk_at dksX0_without_0 16 rfl rfl)
theorem dX0_without_17 : decode cX0_without 17 = .ok (.invokevirtual 337, 3) := dk_182 1 81 (dk_at dksX0_without_0 17 rfl rfl)
theorem dX0_without_20 : decode cX0_without 20 = .ok (.iconst 1, 1) := dk_4 (dk_at dksX0_without_0 20 rfl rfl)
theorem dX0_without_21 : decode cX0_without 21 = .ok (.iload_n 1, 1) := dk_27 (dk_at dksX0_without_0 21 rfl rfl)
theorem dX0_without_22 : decode cX0_without 22 = .ok (.ishl, 1) := dk_120 (dk_at dksX0_without_0 22 rfl rfl)
theorem dX0_without_23 : decode cX0_without 23 = .ok (.iconst (-1), 1) := dk_2 (dk_at dksX0_without_0 23 rfl rfl)
theorem dX0_without_24 : decode cX0_without 24 = .ok (.ixor, 1) := dk_130 (dk_at dksX0_without_1 0 rfl rfl)
theorem dX0_without_25 : decode cX0_without 25 = .ok (.iand, 1) := dk_126 (dk_at dksX0_without_1 1 rfl rfl)
theorem dX0_without_26 : decode cX0_without 26 = .ok (.invokespecial 340, 3) := dk_183 1 84 (dk_at dksX0_without_1 2 rfl rfl)
theorem dX0_without_29 : decode cX0_without 29 = .ok (.invokevirtual 341, 3) := dk_182 1 85 (dk_at dksX0_without_1 5 rfl rfl)
theorem dX0_without_32 : decode cX0_without 32 = .ok (.goto 4, 3) := dk_167 0 4 (dk_at dksX0_without_1 8 rfl rfl)
theorem dX0_without_35 : decode cX0_without 35 = .ok (.iconst (-1), 1) := dk_2 (dk_at dksX0_without_1 11 rfl rfl)
theorem dX0_without_36 : decode cX0_without 36 = .ok (.ireturn, 1) := dk_172 (dk_at dksX0_without_1 12 rfl rfl)
abbrev cX0_core : ByteArray := prog_1_method_59_code
def yX0_core : MethodName := ⟨RX0, "core", "()I"⟩
def dkwX0_core_5 : List UInt8 := [132, 2, 1, 167, 255, 205, 27, 172]
abbrev dktX0_core_5 : List UInt8 := dkwX0_core_5 ++ []
def dkwX0_core_4 : List UInt8 := [4, 28, 120, 2, 130, 126, 182, 1, 103, 154, 0, 13, 27, 4, 28, 120, 2, 130, 126, 167, 0, 4, 27, 60]
abbrev dktX0_core_4 : List UInt8 := dkwX0_core_4 ++ dktX0_core_5
def dkwX0_core_3 : List UInt8 := [28, 42, 180, 0, 38, 180, 0, 68, 182, 0, 72, 162, 0, 43, 27, 28, 184, 0, 199, 153, 0, 27, 42, 27]
abbrev dktX0_core_3 : List UInt8 := dkwX0_core_3 ++ dktX0_core_4
def dkwX0_core_2 : List UInt8 := [182, 1, 106, 6, 160, 0, 7, 3, 167, 0, 6, 4, 28, 120, 128, 60, 132, 2, 1, 167, 255, 208, 3, 61]
abbrev dktX0_core_2 : List UInt8 := dkwX0_core_2 ++ dktX0_core_3
def dkwX0_core_1 : List UInt8 := [180, 0, 68, 182, 0, 72, 162, 0, 40, 27, 42, 180, 0, 38, 180, 0, 68, 28, 182, 0, 106, 192, 0, 171]
abbrev dktX0_core_1 : List UInt8 := dkwX0_core_1 ++ dktX0_core_2
def dkwX0_core_0 : List UInt8 := [42, 42, 182, 1, 81, 182, 1, 103, 153, 0, 6, 16, 253, 172, 3, 60, 3, 61, 28, 42, 180, 0, 38]
abbrev dktX0_core_0 : List UInt8 := dkwX0_core_0 ++ dktX0_core_1
theorem dksX0_core_0 : cX0_core.data.toList.drop 0 = dktX0_core_0 := by decide +kernel
theorem dksX0_core_1 : cX0_core.data.toList.drop 23 = dktX0_core_1 := dk_seg dksX0_core_0 23 rfl rfl
theorem dksX0_core_2 : cX0_core.data.toList.drop 47 = dktX0_core_2 := dk_seg dksX0_core_1 24 rfl rfl
theorem dksX0_core_3 : cX0_core.data.toList.drop 71 = dktX0_core_3 := dk_seg dksX0_core_2 24 rfl rfl
theorem dksX0_core_4 : cX0_core.data.toList.drop 95 = dktX0_core_4 := dk_seg dksX0_core_3 24 rfl rfl
theorem dksX0_core_5 : cX0_core.data.toList.drop 119 = dktX0_core_5 := dk_seg dksX0_core_4 24 rfl rfl
theorem dX0_core_0 : decode cX0_core 0 = .ok (.aload_n 0, 1) := dk_42 (dk_at dksX0_core_0 0 rfl rfl)
theorem dX0_core_1 : decode cX0_core 1 = .ok (.aload_n 0, 1) := dk_42 (dk_at dksX0_core_0 1 rfl rfl)
theorem dX0_core_2 : decode cX0_core 2 = .ok (.invokevirtual 337, 3) := dk_182 1 81 (dk_at dksX0_core_0 2 rfl rfl)
theorem dX0_core_5 : decode cX0_core 5 = .ok (.invokevirtual 359, 3) := dk_182 1 103 (dk_at dksX0_core_0 5 rfl rfl)
theorem dX0_core_8 : decode cX0_core 8 = .ok (.ifCond .eq 6, 3) := dk_153 0 6 (dk_at dksX0_core_0 8 rfl rfl)
theorem dX0_core_11 : decode cX0_core 11 = .ok (.bipush (-3), 2) := dk_16 253 (dk_at dksX0_core_0 11 rfl rfl)
theorem dX0_core_13 : decode cX0_core 13 = .ok (.ireturn, 1) := dk_172 (dk_at dksX0_core_0 13 rfl rfl)
theorem dX0_core_14 : decode cX0_core 14 = .ok (.iconst 0, 1) := dk_3 (dk_at dksX0_core_0 14 rfl rfl)
theorem dX0_core_15 : decode cX0_core 15 = .ok (.istore_n 1, 1) := dk_60 (dk_at dksX0_core_0 15 rfl rfl)
theorem dX0_core_16 : decode cX0_core 16 = .ok (.iconst 0, 1) := dk_3 (dk_at dksX0_core_0 16 rfl rfl)
theorem dX0_core_17 : decode cX0_core 17 = .ok (.istore_n 2, 1) := dk_61 (dk_at dksX0_core_0 17 rfl rfl)
theorem dX0_core_18 : decode cX0_core 18 = .ok (.iload_n 2, 1) := dk_28 (dk_at dksX0_core_0 18 rfl rfl)
theorem dX0_core_19 : decode cX0_core 19 = .ok (.aload_n 0, 1) := dk_42 (dk_at dksX0_core_0 19 rfl rfl)
theorem dX0_core_20 : decode cX0_core 20 = .ok (.getfield 38, 3) := dk_180 0 38 (dk_at dksX0_core_0 20 rfl rfl)
theorem dX0_core_23 : decode cX0_core 23 = .ok (.getfield 68, 3) := dk_180 0 68 (dk_at dksX0_core_1 0 rfl rfl)
theorem dX0_core_26 : decode cX0_core 26 = .ok (.invokevirtual 72, 3) := dk_182 0 72 (dk_at dksX0_core_1 3 rfl rfl)
theorem dX0_core_29 : decode cX0_core 29 = .ok (.if_icmp .ge 40, 3) := dk_162 0 40 (dk_at dksX0_core_1 6 rfl rfl)
theorem dX0_core_32 : decode cX0_core 32 = .ok (.iload_n 1, 1) := dk_27 (dk_at dksX0_core_1 9 rfl rfl)
theorem dX0_core_33 : decode cX0_core 33 = .ok (.aload_n 0, 1) := dk_42 (dk_at dksX0_core_1 10 rfl rfl)
theorem dX0_core_34 : decode cX0_core 34 = .ok (.getfield 38, 3) := dk_180 0 38 (dk_at dksX0_core_1 11 rfl rfl)
theorem dX0_core_37 : decode cX0_core 37 = .ok (.getfield 68, 3) := dk_180 0 68 (dk_at dksX0_core_1 14 rfl rfl)
theorem dX0_core_40 : decode cX0_core 40 = .ok (.iload_n 2, 1) := dk_28 (dk_at dksX0_core_1 17 rfl rfl)
theorem dX0_core_41 : decode cX0_core 41 = .ok (.invokevirtual 106, 3) := dk_182 0 106 (dk_at dksX0_core_1 18 rfl rfl)
theorem dX0_core_44 : decode cX0_core 44 = .ok (.checkcast 171, 3) := dk_192 0 171 (dk_at dksX0_core_1 21 rfl rfl)
theorem dX0_core_47 : decode cX0_core 47 = .ok (.invokevirtual 362, 3) := dk_182 1 106 (dk_at dksX0_core_2 0 rfl rfl)
theorem dX0_core_50 : decode cX0_core 50 = .ok (.iconst 3, 1) := dk_6 (dk_at dksX0_core_2 3 rfl rfl)
theorem dX0_core_51 : decode cX0_core 51 = .ok (.if_icmp .ne 7, 3) := dk_160 0 7 (dk_at dksX0_core_2 4 rfl rfl)
theorem dX0_core_54 : decode cX0_core 54 = .ok (.iconst 0, 1) := dk_3 (dk_at dksX0_core_2 7 rfl rfl)
theorem dX0_core_55 : decode cX0_core 55 = .ok (.goto 6, 3) := dk_167 0 6 (dk_at dksX0_core_2 8 rfl rfl)
theorem dX0_core_58 : decode cX0_core 58 = .ok (.iconst 1, 1) := dk_4 (dk_at dksX0_core_2 11 rfl rfl)
theorem dX0_core_59 : decode cX0_core 59 = .ok (.iload_n 2, 1) := dk_28 (dk_at dksX0_core_2 12 rfl rfl)
theorem dX0_core_60 : decode cX0_core 60 = .ok (.ishl, 1) := dk_120 (dk_at dksX0_core_2 13 rfl rfl)
theorem dX0_core_61 : decode cX0_core 61 = .ok (.ior, 1) := dk_128 (dk_at dksX0_core_2 14 rfl rfl)
theorem dX0_core_62 : decode cX0_core 62 = .ok (.istore_n 1, 1) := dk_60 (dk_at dksX0_core_2 15 rfl rfl)
theorem dX0_core_63 : decode cX0_core 63 = .ok (.iinc 2 1, 3) := dk_132 2 1 (dk_at dksX0_core_2 16 rfl rfl)
theorem dX0_core_66 : decode cX0_core 66 = .ok (.goto (-48), 3) := dk_167 255 208 (dk_at dksX0_core_2 19 rfl rfl)
theorem dX0_core_69 : decode cX0_core 69 = .ok (.iconst 0, 1) := dk_3 (dk_at dksX0_core_2 22 rfl rfl)
theorem dX0_core_70 : decode cX0_core 70 = .ok (.istore_n 2, 1) := dk_61 (dk_at dksX0_core_2 23 rfl rfl)
theorem dX0_core_71 : decode cX0_core 71 = .ok (.iload_n 2, 1) := dk_28 (dk_at dksX0_core_3 0 rfl rfl)
theorem dX0_core_72 : decode cX0_core 72 = .ok (.aload_n 0, 1) := dk_42 (dk_at dksX0_core_3 1 rfl rfl)
theorem dX0_core_73 : decode cX0_core 73 = .ok (.getfield 38, 3) := dk_180 0 38 (dk_at dksX0_core_3 2 rfl rfl)
theorem dX0_core_76 : decode cX0_core 76 = .ok (.getfield 68, 3) := dk_180 0 68 (dk_at dksX0_core_3 5 rfl rfl)
theorem dX0_core_79 : decode cX0_core 79 = .ok (.invokevirtual 72, 3) := dk_182 0 72 (dk_at dksX0_core_3 8 rfl rfl)
theorem dX0_core_82 : decode cX0_core 82 = .ok (.if_icmp .ge 43, 3) := dk_162 0 43 (dk_at dksX0_core_3 11 rfl rfl)
theorem dX0_core_85 : decode cX0_core 85 = .ok (.iload_n 1, 1) := dk_27 (dk_at dksX0_core_3 14 rfl rfl)
theorem dX0_core_86 : decode cX0_core 86 = .ok (.iload_n 2, 1) := dk_28 (dk_at dksX0_core_3 15 rfl rfl)
theorem dX0_core_87 : decode cX0_core 87 = .ok (.invokestatic 199, 3) := dk_184 0 199 (dk_at dksX0_core_3 16 rfl rfl)
theorem dX0_core_90 : decode cX0_core 90 = .ok (.ifCond .eq 27, 3) := dk_153 0 27 (dk_at dksX0_core_3 19 rfl rfl)
theorem dX0_core_93 : decode cX0_core 93 = .ok (.aload_n 0, 1) := dk_42 (dk_at dksX0_core_3 22 rfl rfl)
theorem dX0_core_94 : decode cX0_core 94 = .ok (.iload_n 1, 1) := dk_27 (dk_at dksX0_core_3 23 rfl rfl)
theorem dX0_core_95 : decode cX0_core 95 = .ok (.iconst 1, 1) := dk_4 (dk_at dksX0_core_4 0 rfl rfl)
theorem dX0_core_96 : decode cX0_core 96 = .ok (.iload_n 2, 1) := dk_28 (dk_at dksX0_core_4 1 rfl rfl)
theorem dX0_core_97 : decode cX0_core 97 = .ok (.ishl, 1) := dk_120 (dk_at dksX0_core_4 2 rfl rfl)
theorem dX0_core_98 : decode cX0_core 98 = .ok (.iconst (-1), 1) := dk_2 (dk_at dksX0_core_4 3 rfl rfl)
theorem dX0_core_99 : decode cX0_core 99 = .ok (.ixor, 1) := dk_130 (dk_at dksX0_core_4 4 rfl rfl)
theorem dX0_core_100 : decode cX0_core 100 = .ok (.iand, 1) := dk_126 (dk_at dksX0_core_4 5 rfl rfl)
theorem dX0_core_101 : decode cX0_core 101 = .ok (.invokevirtual 359, 3) := dk_182 1 103 (dk_at dksX0_core_4 6 rfl rfl)
theorem dX0_core_104 : decode cX0_core 104 = .ok (.ifCond .ne 13, 3) := dk_154 0 13 (dk_at dksX0_core_4 9 rfl rfl)
theorem dX0_core_107 : decode cX0_core 107 = .ok (.iload_n 1, 1) := dk_27 (dk_at dksX0_core_4 12 rfl rfl)
theorem dX0_core_108 : decode cX0_core 108 = .ok (.iconst 1, 1) := dk_4 (dk_at dksX0_core_4 13 rfl rfl)
theorem dX0_core_109 : decode cX0_core 109 = .ok (.iload_n 2, 1) := dk_28 (dk_at dksX0_core_4 14 rfl rfl)
theorem dX0_core_110 : decode cX0_core 110 = .ok (.ishl, 1) := dk_120 (dk_at dksX0_core_4 15 rfl rfl)
theorem dX0_core_111 : decode cX0_core 111 = .ok (.iconst (-1), 1) := dk_2 (dk_at dksX0_core_4 16 rfl rfl)
theorem dX0_core_112 : decode cX0_core 112 = .ok (.ixor, 1) := dk_130 (dk_at dksX0_core_4 17 rfl rfl)
theorem dX0_core_113 : decode cX0_core 113 = .ok (.iand, 1) := dk_126 (dk_at dksX0_core_4 18 rfl rfl)
theorem dX0_core_114 : decode cX0_core 114 = .ok (.goto 4, 3) := dk_167 0 4 (dk_at dksX0_core_4 19 rfl rfl)
theorem dX0_core_117 : decode cX0_core 117 = .ok (.iload_n 1, 1) := dk_27 (dk_at dksX0_core_4 22 rfl rfl)
theorem dX0_core_118 : decode cX0_core 118 = .ok (.istore_n 1, 1) := dk_60 (dk_at dksX0_core_4 23 rfl rfl)
theorem dX0_core_119 : decode cX0_core 119 = .ok (.iinc 2 1, 3) := dk_132 2 1 (dk_at dksX0_core_5 0 rfl rfl)
theorem dX0_core_122 : decode cX0_core 122 = .ok (.goto (-51), 3) := dk_167 255 205 (dk_at dksX0_core_5 3 rfl rfl)
theorem dX0_core_125 : decode cX0_core 125 = .ok (.iload_n 1, 1) := dk_27 (dk_at dksX0_core_5 6 rfl rfl)
theorem dX0_core_126 : decode cX0_core 126 = .ok (.ireturn, 1) := dk_172 (dk_at dksX0_core_5 7 rfl rfl)
abbrev cX0_isSolvable : ByteArray := prog_1_method_13_code
def yX0_isSolvable : MethodName := ⟨RX0, "isSolvable", "(I)Z"⟩
def dkwX0_isSolvable_0 : List UInt8 := [187, 0, 78, 89, 42, 180, 0, 38, 27, 183, 0, 80, 182, 0, 83, 172]
abbrev dktX0_isSolvable_0 : List UInt8 := dkwX0_isSolvable_0 ++ []
theorem dksX0_isSolvable_0 : cX0_isSolvable.data.toList.drop 0 = dktX0_isSolvable_0 := by decide +kernel
theorem dX0_isSolvable_0 : decode cX0_isSolvable 0 = .ok (.new 78, 3) := dk_187 0 78 (dk_at dksX0_isSolvable_0 0 rfl rfl)
theorem dX0_isSolvable_3 : decode cX0_isSolvable 3 = .ok (.dup, 1) := dk_89 (dk_at dksX0_isSolvable_0 3 rfl rfl)
theorem dX0_isSolvable_4 : decode cX0_isSolvable 4 = .ok (.aload_n 0, 1) := dk_42 (dk_at dksX0_isSolvable_0 4 rfl rfl)
theorem dX0_isSolvable_5 : decode cX0_isSolvable 5 = .ok (.getfield 38, 3) := dk_180 0 38 (dk_at dksX0_isSolvable_0 5 rfl rfl)
theorem dX0_isSolvable_8 : decode cX0_isSolvable 8 = .ok (.iload_n 1, 1) := dk_27 (dk_at dksX0_isSolvable_0 8 rfl rfl)
theorem dX0_isSolvable_9 : decode cX0_isSolvable 9 = .ok (.invokespecial 80, 3) := dk_183 0 80 (dk_at dksX0_isSolvable_0 9 rfl rfl)
theorem dX0_isSolvable_12 : decode cX0_isSolvable 12 = .ok (.invokevirtual 83, 3) := dk_182 0 83 (dk_at dksX0_isSolvable_0 12 rfl rfl)
theorem dX0_isSolvable_15 : decode cX0_isSolvable 15 = .ok (.ireturn, 1) := dk_172 (dk_at dksX0_isSolvable_0 15 rfl rfl)
abbrev cX0_possible : ByteArray := prog_1_method_60_code
def yX0_possible : MethodName := ⟨RX0, "possible", "(I)I"⟩
def dkwX0_possible_1 : List UInt8 := [182, 1, 114, 167, 0, 4, 2, 172]
abbrev dktX0_possible_1 : List UInt8 := dkwX0_possible_1 ++ []
def dkwX0_possible_0 : List UInt8 := [42, 27, 182, 0, 102, 153, 0, 25, 187, 1, 109, 89, 42, 180, 0, 38, 42, 182, 1, 81, 27, 183, 1, 111]
abbrev dktX0_possible_0 : List UInt8 := dkwX0_possible_0 ++ dktX0_possible_1
theorem dksX0_possible_0 : cX0_possible.data.toList.drop 0 = dktX0_possible_0 := by decide +kernel
theorem dksX0_possible_1 : cX0_possible.data.toList.drop 24 = dktX0_possible_1 := dk_seg dksX0_possible_0 24 rfl rfl
theorem dX0_possible_0 : decode cX0_possible 0 = .ok (.aload_n 0, 1) := dk_42 (dk_at dksX0_possible_0 0 rfl rfl)
theorem dX0_possible_1 : decode cX0_possible 1 = .ok (.iload_n 1, 1) := dk_27 (dk_at dksX0_possible_0 1 rfl rfl)
theorem dX0_possible_2 : decode cX0_possible 2 = .ok (.invokevirtual 102, 3) := dk_182 0 102 (dk_at dksX0_possible_0 2 rfl rfl)
theorem dX0_possible_5 : decode cX0_possible 5 = .ok (.ifCond .eq 25, 3) := dk_153 0 25 (dk_at dksX0_possible_0 5 rfl rfl)
theorem dX0_possible_8 : decode cX0_possible 8 = .ok (.new 365, 3) := dk_187 1 109 (dk_at dksX0_possible_0 8 rfl rfl)
theorem dX0_possible_11 : decode cX0_possible 11 = .ok (.dup, 1) := dk_89 (dk_at dksX0_possible_0 11 rfl rfl)
theorem dX0_possible_12 : decode cX0_possible 12 = .ok (.aload_n 0, 1) := dk_42 (dk_at dksX0_possible_0 12 rfl rfl)
theorem dX0_possible_13 : decode cX0_possible 13 = .ok (.getfield 38, 3) := dk_180 0 38 (dk_at dksX0_possible_0 13 rfl rfl)
theorem dX0_possible_16 : decode cX0_possible 16 = .ok (.aload_n 0, 1) := dk_42 (dk_at dksX0_possible_0 16 rfl rfl)
theorem dX0_possible_17 : decode cX0_possible 17 = .ok (.invokevirtual 337, 3) := dk_182 1 81 (dk_at dksX0_possible_0 17 rfl rfl)
theorem dX0_possible_20 : decode cX0_possible 20 = .ok (.iload_n 1, 1) := dk_27 (dk_at dksX0_possible_0 20 rfl rfl)
theorem dX0_possible_21 : decode cX0_possible 21 = .ok (.invokespecial 367, 3) := dk_183 1 111 (dk_at dksX0_possible_0 21 rfl rfl)
theorem dX0_possible_24 : decode cX0_possible 24 = .ok (.invokevirtual 370, 3) := dk_182 1 114 (dk_at dksX0_possible_1 0 rfl rfl)
theorem dX0_possible_27 : decode cX0_possible 27 = .ok (.goto 4, 3) := dk_167 0 4 (dk_at dksX0_possible_1 3 rfl rfl)
theorem dX0_possible_30 : decode cX0_possible 30 = .ok (.iconst (-1), 1) := dk_2 (dk_at dksX0_possible_1 6 rfl rfl)
theorem dX0_possible_31 : decode cX0_possible 31 = .ok (.ireturn, 1) := dk_172 (dk_at dksX0_possible_1 7 rfl rfl)
abbrev cX0_append : ByteArray := prog_1_method_61_code
def yX0_append : MethodName := ⟨RX0, "append", "(C)I"⟩
def dkwX0_append_2 : List UInt8 := [153, 0, 5, 28, 172, 42, 180, 0, 42, 27, 182, 1, 118, 87, 42, 180, 0, 42, 182, 1, 115, 172]
abbrev dktX0_append_2 : List UInt8 := dkwX0_append_2 ++ []
def dkwX0_append_1 : List UInt8 := [182, 1, 115, 16, 60, 162, 0, 7, 4, 167, 0, 4, 3, 184, 0, 152, 79, 184, 0, 139, 61, 28]
abbrev dktX0_append_1 : List UInt8 := dkwX0_append_1 ++ dktX0_append_2
def dkwX0_append_0 : List UInt8 := [5, 188, 10, 89, 3, 27, 16, 33, 16, 126, 184, 0, 98, 184, 0, 136, 79, 89, 4, 42, 180, 0, 42]
abbrev dktX0_append_0 : List UInt8 := dkwX0_append_0 ++ dktX0_append_1
theorem dksX0_append_0 : cX0_append.data.toList.drop 0 = dktX0_append_0 := by decide +kernel
theorem dksX0_append_1 : cX0_append.data.toList.drop 23 = dktX0_append_1 := dk_seg dksX0_append_0 23 rfl rfl
theorem dksX0_append_2 : cX0_append.data.toList.drop 45 = dktX0_append_2 := dk_seg dksX0_append_1 22 rfl rfl
theorem dX0_append_0 : decode cX0_append 0 = .ok (.iconst 2, 1) := dk_5 (dk_at dksX0_append_0 0 rfl rfl)
theorem dX0_append_1 : decode cX0_append 1 = .ok (.newarray .int, 2) := dk_188_10 (dk_at dksX0_append_0 1 rfl rfl)
theorem dX0_append_3 : decode cX0_append 3 = .ok (.dup, 1) := dk_89 (dk_at dksX0_append_0 3 rfl rfl)
theorem dX0_append_4 : decode cX0_append 4 = .ok (.iconst 0, 1) := dk_3 (dk_at dksX0_append_0 4 rfl rfl)
theorem dX0_append_5 : decode cX0_append 5 = .ok (.iload_n 1, 1) := dk_27 (dk_at dksX0_append_0 5 rfl rfl)
theorem dX0_append_6 : decode cX0_append 6 = .ok (.bipush 33, 2) := dk_16 33 (dk_at dksX0_append_0 6 rfl rfl)
theorem dX0_append_8 : decode cX0_append 8 = .ok (.bipush 126, 2) := dk_16 126 (dk_at dksX0_append_0 8 rfl rfl)
theorem dX0_append_10 : decode cX0_append 10 = .ok (.invokestatic 98, 3) := dk_184 0 98 (dk_at dksX0_append_0 10 rfl rfl)
theorem dX0_append_13 : decode cX0_append 13 = .ok (.invokestatic 136, 3) := dk_184 0 136 (dk_at dksX0_append_0 13 rfl rfl)
theorem dX0_append_16 : decode cX0_append 16 = .ok (.iastore, 1) := dk_79 (dk_at dksX0_append_0 16 rfl rfl)
theorem dX0_append_17 : decode cX0_append 17 = .ok (.dup, 1) := dk_89 (dk_at dksX0_append_0 17 rfl rfl)
theorem dX0_append_18 : decode cX0_append 18 = .ok (.iconst 1, 1) := dk_4 (dk_at dksX0_append_0 18 rfl rfl)
theorem dX0_append_19 : decode cX0_append 19 = .ok (.aload_n 0, 1) := dk_42 (dk_at dksX0_append_0 19 rfl rfl)
theorem dX0_append_20 : decode cX0_append 20 = .ok (.getfield 42, 3) := dk_180 0 42 (dk_at dksX0_append_0 20 rfl rfl)
theorem dX0_append_23 : decode cX0_append 23 = .ok (.invokevirtual 371, 3) := dk_182 1 115 (dk_at dksX0_append_1 0 rfl rfl)
theorem dX0_append_26 : decode cX0_append 26 = .ok (.bipush 60, 2) := dk_16 60 (dk_at dksX0_append_1 3 rfl rfl)
theorem dX0_append_28 : decode cX0_append 28 = .ok (.if_icmp .ge 7, 3) := dk_162 0 7 (dk_at dksX0_append_1 5 rfl rfl)
theorem dX0_append_31 : decode cX0_append 31 = .ok (.iconst 1, 1) := dk_4 (dk_at dksX0_append_1 8 rfl rfl)
theorem dX0_append_32 : decode cX0_append 32 = .ok (.goto 4, 3) := dk_167 0 4 (dk_at dksX0_append_1 9 rfl rfl)
theorem dX0_append_35 : decode cX0_append 35 = .ok (.iconst 0, 1) := dk_3 (dk_at dksX0_append_1 12 rfl rfl)
theorem dX0_append_36 : decode cX0_append 36 = .ok (.invokestatic 152, 3) := dk_184 0 152 (dk_at dksX0_append_1 13 rfl rfl)
theorem dX0_append_39 : decode cX0_append 39 = .ok (.iastore, 1) := dk_79 (dk_at dksX0_append_1 16 rfl rfl)
theorem dX0_append_40 : decode cX0_append 40 = .ok (.invokestatic 139, 3) := dk_184 0 139 (dk_at dksX0_append_1 17 rfl rfl)
theorem dX0_append_43 : decode cX0_append 43 = .ok (.istore_n 2, 1) := dk_61 (dk_at dksX0_append_1 20 rfl rfl)
theorem dX0_append_44 : decode cX0_append 44 = .ok (.iload_n 2, 1) := dk_28 (dk_at dksX0_append_1 21 rfl rfl)
theorem dX0_append_45 : decode cX0_append 45 = .ok (.ifCond .eq 5, 3) := dk_153 0 5 (dk_at dksX0_append_2 0 rfl rfl)
theorem dX0_append_48 : decode cX0_append 48 = .ok (.iload_n 2, 1) := dk_28 (dk_at dksX0_append_2 3 rfl rfl)
theorem dX0_append_49 : decode cX0_append 49 = .ok (.ireturn, 1) := dk_172 (dk_at dksX0_append_2 4 rfl rfl)
theorem dX0_append_50 : decode cX0_append 50 = .ok (.aload_n 0, 1) := dk_42 (dk_at dksX0_append_2 5 rfl rfl)
theorem dX0_append_51 : decode cX0_append 51 = .ok (.getfield 42, 3) := dk_180 0 42 (dk_at dksX0_append_2 6 rfl rfl)
theorem dX0_append_54 : decode cX0_append 54 = .ok (.iload_n 1, 1) := dk_27 (dk_at dksX0_append_2 9 rfl rfl)
theorem dX0_append_55 : decode cX0_append 55 = .ok (.invokevirtual 374, 3) := dk_182 1 118 (dk_at dksX0_append_2 10 rfl rfl)
theorem dX0_append_58 : decode cX0_append 58 = .ok (.pop, 1) := dk_87 (dk_at dksX0_append_2 13 rfl rfl)
theorem dX0_append_59 : decode cX0_append 59 = .ok (.aload_n 0, 1) := dk_42 (dk_at dksX0_append_2 14 rfl rfl)
theorem dX0_append_60 : decode cX0_append 60 = .ok (.getfield 42, 3) := dk_180 0 42 (dk_at dksX0_append_2 15 rfl rfl)
theorem dX0_append_63 : decode cX0_append 63 = .ok (.invokevirtual 371, 3) := dk_182 1 115 (dk_at dksX0_append_2 18 rfl rfl)
theorem dX0_append_66 : decode cX0_append 66 = .ok (.ireturn, 1) := dk_172 (dk_at dksX0_append_2 21 rfl rfl)
abbrev cX0_read : ByteArray := prog_1_method_63_code
def yX0_read : MethodName := ⟨RX0, "read", "()I"⟩
def dkwX0_read_5 : List UInt8 := [182, 1, 152, 29, 172, 58, 4, 42, 180, 0, 42, 3, 182, 1, 152, 25, 4, 191]
abbrev dktX0_read_5 : List UInt8 := dkwX0_read_5 ++ []
def dkwX0_read_4 : List UInt8 := [77, 42, 44, 180, 1, 160, 181, 0, 35, 42, 43, 181, 0, 38, 16, 253, 62, 42, 180, 0, 42, 3]
abbrev dktX0_read_4 : List UInt8 := dkwX0_read_4 ++ dktX0_read_5
def dkwX0_read_3 : List UInt8 := [29, 172, 77, 42, 44, 180, 1, 157, 181, 0, 31, 16, 254, 62, 42, 180, 0, 42, 3, 182, 1, 152, 29, 172]
abbrev dktX0_read_3 : List UInt8 := dkwX0_read_3 ++ dktX0_read_4
def dkwX0_read_2 : List UInt8 := [132, 3, 1, 167, 255, 232, 42, 43, 44, 182, 0, 72, 182, 0, 124, 62, 42, 180, 0, 42, 3, 182, 1, 152]
abbrev dktX0_read_2 : List UInt8 := dkwX0_read_2 ++ dktX0_read_3
def dkwX0_read_1 : List UInt8 := [62, 29, 44, 182, 0, 72, 162, 0, 22, 42, 44, 29, 182, 0, 106, 192, 1, 123, 29, 182, 1, 148]
abbrev dktX0_read_1 : List UInt8 := dkwX0_read_1 ++ dktX0_read_2
def dkwX0_read_0 : List UInt8 := [42, 180, 0, 38, 182, 0, 115, 76, 187, 1, 139, 89, 42, 180, 0, 42, 183, 1, 141, 182, 1, 144, 77, 3]
abbrev dktX0_read_0 : List UInt8 := dkwX0_read_0 ++ dktX0_read_1
theorem dksX0_read_0 : cX0_read.data.toList.drop 0 = dktX0_read_0 := by decide +kernel
theorem dksX0_read_1 : cX0_read.data.toList.drop 24 = dktX0_read_1 := dk_seg dksX0_read_0 24 rfl rfl
theorem dksX0_read_2 : cX0_read.data.toList.drop 46 = dktX0_read_2 := dk_seg dksX0_read_1 22 rfl rfl
theorem dksX0_read_3 : cX0_read.data.toList.drop 70 = dktX0_read_3 := dk_seg dksX0_read_2 24 rfl rfl
theorem dksX0_read_4 : cX0_read.data.toList.drop 94 = dktX0_read_4 := dk_seg dksX0_read_3 24 rfl rfl
theorem dksX0_read_5 : cX0_read.data.toList.drop 116 = dktX0_read_5 := dk_seg dksX0_read_4 22 rfl rfl
theorem dX0_read_0 : decode cX0_read 0 = .ok (.aload_n 0, 1) := dk_42 (dk_at dksX0_read_0 0 rfl rfl)
theorem dX0_read_1 : decode cX0_read 1 = .ok (.getfield 38, 3) := dk_180 0 38 (dk_at dksX0_read_0 1 rfl rfl)
theorem dX0_read_4 : decode cX0_read 4 = .ok (.invokevirtual 115, 3) := dk_182 0 115 (dk_at dksX0_read_0 4 rfl rfl)
theorem dX0_read_7 : decode cX0_read 7 = .ok (.astore_n 1, 1) := dk_76 (dk_at dksX0_read_0 7 rfl rfl)
theorem dX0_read_8 : decode cX0_read 8 = .ok (.new 395, 3) := dk_187 1 139 (dk_at dksX0_read_0 8 rfl rfl)
theorem dX0_read_11 : decode cX0_read 11 = .ok (.dup, 1) := dk_89 (dk_at dksX0_read_0 11 rfl rfl)
theorem dX0_read_12 : decode cX0_read 12 = .ok (.aload_n 0, 1) := dk_42 (dk_at dksX0_read_0 12 rfl rfl)
theorem dX0_read_13 : decode cX0_read 13 = .ok (.getfield 42, 3) := dk_180 0 42 (dk_at dksX0_read_0 13 rfl rfl)
theorem dX0_read_16 : decode cX0_read 16 = .ok (.invokespecial 397, 3) := dk_183 1 141 (dk_at dksX0_read_0 16 rfl rfl)
theorem dX0_read_19 : decode cX0_read 19 = .ok (.invokevirtual 400, 3) := dk_182 1 144 (dk_at dksX0_read_0 19 rfl rfl)
theorem dX0_read_22 : decode cX0_read 22 = .ok (.astore_n 2, 1) := dk_77 (dk_at dksX0_read_0 22 rfl rfl)
theorem dX0_read_23 : decode cX0_read 23 = .ok (.iconst 0, 1) := dk_3 (dk_at dksX0_read_0 23 rfl rfl)
theorem dX0_read_24 : decode cX0_read 24 = .ok (.istore_n 3, 1) := dk_62 (dk_at dksX0_read_1 0 rfl rfl)
theorem dX0_read_25 : decode cX0_read 25 = .ok (.iload_n 3, 1) := dk_29 (dk_at dksX0_read_1 1 rfl rfl)
theorem dX0_read_26 : decode cX0_read 26 = .ok (.aload_n 2, 1) := dk_44 (dk_at dksX0_read_1 2 rfl rfl)
theorem dX0_read_27 : decode cX0_read 27 = .ok (.invokevirtual 72, 3) := dk_182 0 72 (dk_at dksX0_read_1 3 rfl rfl)
theorem dX0_read_30 : decode cX0_read 30 = .ok (.if_icmp .ge 22, 3) := dk_162 0 22 (dk_at dksX0_read_1 6 rfl rfl)
theorem dX0_read_33 : decode cX0_read 33 = .ok (.aload_n 0, 1) := dk_42 (dk_at dksX0_read_1 9 rfl rfl)
theorem dX0_read_34 : decode cX0_read 34 = .ok (.aload_n 2, 1) := dk_44 (dk_at dksX0_read_1 10 rfl rfl)
theorem dX0_read_35 : decode cX0_read 35 = .ok (.iload_n 3, 1) := dk_29 (dk_at dksX0_read_1 11 rfl rfl)
theorem dX0_read_36 : decode cX0_read 36 = .ok (.invokevirtual 106, 3) := dk_182 0 106 (dk_at dksX0_read_1 12 rfl rfl)
theorem dX0_read_39 : decode cX0_read 39 = .ok (.checkcast 379, 3) := dk_192 1 123 (dk_at dksX0_read_1 15 rfl rfl)
theorem dX0_read_42 : decode cX0_read 42 = .ok (.iload_n 3, 1) := dk_29 (dk_at dksX0_read_1 18 rfl rfl)
theorem dX0_read_43 : decode cX0_read 43 = .ok (.invokevirtual 404, 3) := dk_182 1 148 (dk_at dksX0_read_1 19 rfl rfl)
theorem dX0_read_46 : decode cX0_read 46 = .ok (.iinc 3 1, 3) := dk_132 3 1 (dk_at dksX0_read_2 0 rfl rfl)
theorem dX0_read_49 : decode cX0_read 49 = .ok (.goto (-24), 3) := dk_167 255 232 (dk_at dksX0_read_2 3 rfl rfl)
theorem dX0_read_52 : decode cX0_read 52 = .ok (.aload_n 0, 1) := dk_42 (dk_at dksX0_read_2 6 rfl rfl)
theorem dX0_read_53 : decode cX0_read 53 = .ok (.aload_n 1, 1) := dk_43 (dk_at dksX0_read_2 7 rfl rfl)
theorem dX0_read_54 : decode cX0_read 54 = .ok (.aload_n 2, 1) := dk_44 (dk_at dksX0_read_2 8 rfl rfl)
theorem dX0_read_55 : decode cX0_read 55 = .ok (.invokevirtual 72, 3) := dk_182 0 72 (dk_at dksX0_read_2 9 rfl rfl)
theorem dX0_read_58 : decode cX0_read 58 = .ok (.invokevirtual 124, 3) := dk_182 0 124 (dk_at dksX0_read_2 12 rfl rfl)
theorem dX0_read_61 : decode cX0_read 61 = .ok (.istore_n 3, 1) := dk_62 (dk_at dksX0_read_2 15 rfl rfl)
theorem dX0_read_62 : decode cX0_read 62 = .ok (.aload_n 0, 1) := dk_42 (dk_at dksX0_read_2 16 rfl rfl)
theorem dX0_read_63 : decode cX0_read 63 = .ok (.getfield 42, 3) := dk_180 0 42 (dk_at dksX0_read_2 17 rfl rfl)
theorem dX0_read_66 : decode cX0_read 66 = .ok (.iconst 0, 1) := dk_3 (dk_at dksX0_read_2 20 rfl rfl)
theorem dX0_read_67 : decode cX0_read 67 = .ok (.invokevirtual 408, 3) := dk_182 1 152 (dk_at dksX0_read_2 21 rfl rfl)
theorem dX0_read_70 : decode cX0_read 70 = .ok (.iload_n 3, 1) := dk_29 (dk_at dksX0_read_3 0 rfl rfl)
theorem dX0_read_71 : decode cX0_read 71 = .ok (.ireturn, 1) := dk_172 (dk_at dksX0_read_3 1 rfl rfl)
theorem dX0_read_72 : decode cX0_read 72 = .ok (.astore_n 2, 1) := dk_77 (dk_at dksX0_read_3 2 rfl rfl)
theorem dX0_read_73 : decode cX0_read 73 = .ok (.aload_n 0, 1) := dk_42 (dk_at dksX0_read_3 3 rfl rfl)
theorem dX0_read_74 : decode cX0_read 74 = .ok (.aload_n 2, 1) := dk_44 (dk_at dksX0_read_3 4 rfl rfl)
theorem dX0_read_75 : decode cX0_read 75 = .ok (.getfield 413, 3) := dk_180 1 157 (dk_at dksX0_read_3 5 rfl rfl)
theorem dX0_read_78 : decode cX0_read 78 = .ok (.putfield 31, 3) := dk_181 0 31 (dk_at dksX0_read_3 8 rfl rfl)
theorem dX0_read_81 : decode cX0_read 81 = .ok (.bipush (-2), 2) := dk_16 254 (dk_at dksX0_read_3 11 rfl rfl)
theorem dX0_read_83 : decode cX0_read 83 = .ok (.istore_n 3, 1) := dk_62 (dk_at dksX0_read_3 13 rfl rfl)
theorem dX0_read_84 : decode cX0_read 84 = .ok (.aload_n 0, 1) := dk_42 (dk_at dksX0_read_3 14 rfl rfl)
theorem dX0_read_85 : decode cX0_read 85 = .ok (.getfield 42, 3) := dk_180 0 42 (dk_at dksX0_read_3 15 rfl rfl)
theorem dX0_read_88 : decode cX0_read 88 = .ok (.iconst 0, 1) := dk_3 (dk_at dksX0_read_3 18 rfl rfl)
theorem dX0_read_89 : decode cX0_read 89 = .ok (.invokevirtual 408, 3) := dk_182 1 152 (dk_at dksX0_read_3 19 rfl rfl)
theorem dX0_read_92 : decode cX0_read 92 = .ok (.iload_n 3, 1) := dk_29 (dk_at dksX0_read_3 22 rfl rfl)
theorem dX0_read_93 : decode cX0_read 93 = .ok (.ireturn, 1) := dk_172 (dk_at dksX0_read_3 23 rfl rfl)
theorem dX0_read_94 : decode cX0_read 94 = .ok (.astore_n 2, 1) := dk_77 (dk_at dksX0_read_4 0 rfl rfl)
theorem dX0_read_95 : decode cX0_read 95 = .ok (.aload_n 0, 1) := dk_42 (dk_at dksX0_read_4 1 rfl rfl)
theorem dX0_read_96 : decode cX0_read 96 = .ok (.aload_n 2, 1) := dk_44 (dk_at dksX0_read_4 2 rfl rfl)
theorem dX0_read_97 : decode cX0_read 97 = .ok (.getfield 416, 3) := dk_180 1 160 (dk_at dksX0_read_4 3 rfl rfl)
theorem dX0_read_100 : decode cX0_read 100 = .ok (.putfield 35, 3) := dk_181 0 35 (dk_at dksX0_read_4 6 rfl rfl)
theorem dX0_read_103 : decode cX0_read 103 = .ok (.aload_n 0, 1) := dk_42 (dk_at dksX0_read_4 9 rfl rfl)
theorem dX0_read_104 : decode cX0_read 104 = .ok (.aload_n 1, 1) := dk_43 (dk_at dksX0_read_4 10 rfl rfl)
theorem dX0_read_105 : decode cX0_read 105 = .ok (.putfield 38, 3) := dk_181 0 38 (dk_at dksX0_read_4 11 rfl rfl)
theorem dX0_read_108 : decode cX0_read 108 = .ok (.bipush (-3), 2) := dk_16 253 (dk_at dksX0_read_4 14 rfl rfl)
theorem dX0_read_110 : decode cX0_read 110 = .ok (.istore_n 3, 1) := dk_62 (dk_at dksX0_read_4 16 rfl rfl)
theorem dX0_read_111 : decode cX0_read 111 = .ok (.aload_n 0, 1) := dk_42 (dk_at dksX0_read_4 17 rfl rfl)
theorem dX0_read_112 : decode cX0_read 112 = .ok (.getfield 42, 3) := dk_180 0 42 (dk_at dksX0_read_4 18 rfl rfl)
theorem dX0_read_115 : decode cX0_read 115 = .ok (.iconst 0, 1) := dk_3 (dk_at dksX0_read_4 21 rfl rfl)
theorem dX0_read_116 : decode cX0_read 116 = .ok (.invokevirtual 408, 3) := dk_182 1 152 (dk_at dksX0_read_5 0 rfl rfl)
theorem dX0_read_119 : decode cX0_read 119 = .ok (.iload_n 3, 1) := dk_29 (dk_at dksX0_read_5 3 rfl rfl)
theorem dX0_read_120 : decode cX0_read 120 = .ok (.ireturn, 1) := dk_172 (dk_at dksX0_read_5 4 rfl rfl)
theorem dX0_read_121 : decode cX0_read 121 = .ok (.astore 4, 2) := dk_58 4 (dk_at dksX0_read_5 5 rfl rfl)
theorem dX0_read_123 : decode cX0_read 123 = .ok (.aload_n 0, 1) := dk_42 (dk_at dksX0_read_5 7 rfl rfl)
theorem dX0_read_124 : decode cX0_read 124 = .ok (.getfield 42, 3) := dk_180 0 42 (dk_at dksX0_read_5 8 rfl rfl)
theorem dX0_read_127 : decode cX0_read 127 = .ok (.iconst 0, 1) := dk_3 (dk_at dksX0_read_5 11 rfl rfl)
theorem dX0_read_128 : decode cX0_read 128 = .ok (.invokevirtual 408, 3) := dk_182 1 152 (dk_at dksX0_read_5 12 rfl rfl)
theorem dX0_read_131 : decode cX0_read 131 = .ok (.aload 4, 2) := dk_25 4 (dk_at dksX0_read_5 15 rfl rfl)
theorem dX0_read_133 : decode cX0_read 133 = .ok (.athrow, 1) := dk_191 (dk_at dksX0_read_5 17 rfl rfl)
abbrev cX0_does : ByteArray := prog_1_method_62_code
def yX0_does : MethodName := ⟨RX0, "does", "(LVersionSolver$Item;I)V"⟩
def dkwX0_does_6 : List UInt8 := [183, 0, 230, 182, 0, 205, 54, 4, 177]
abbrev dktX0_does_6 : List UInt8 := dkwX0_does_6 ++ []
def dkwX0_does_5 : List UInt8 := [167, 0, 26, 187, 0, 228, 89, 43, 180, 1, 126, 43, 180, 1, 130, 43, 180, 1, 133, 43, 180, 1, 127]
abbrev dktX0_does_5 : List UInt8 := dkwX0_does_5 ++ dktX0_does_6
def dkwX0_does_4 : List UInt8 := [187, 0, 223, 89, 43, 180, 1, 126, 43, 180, 1, 130, 43, 180, 1, 133, 43, 180, 1, 127, 183, 0, 225]
abbrev dktX0_does_4 : List UInt8 := dkwX0_does_4 ++ dktX0_does_5
def dkwX0_does_3 : List UInt8 := [43, 180, 1, 126, 43, 180, 1, 127, 183, 0, 213, 167, 0, 60, 43, 180, 1, 122, 4, 160, 0, 29]
abbrev dktX0_does_3 : List UInt8 := dkwX0_does_3 ++ dktX0_does_4
def dkwX0_does_2 : List UInt8 := [187, 1, 136, 89, 28, 183, 1, 138, 191, 42, 180, 0, 38, 43, 180, 1, 122, 154, 0, 21, 187, 0, 211, 89]
abbrev dktX0_does_2 : List UInt8 := dkwX0_does_2 ++ dktX0_does_3
def dkwX0_does_1 : List UInt8 := [180, 1, 126, 43, 180, 1, 130, 43, 180, 1, 133, 43, 180, 1, 127, 182, 0, 219, 62, 29, 153, 0, 12]
abbrev dktX0_does_1 : List UInt8 := dkwX0_does_1 ++ dktX0_does_2
def dkwX0_does_0 : List UInt8 := [43, 180, 1, 122, 154, 0, 18, 42, 43, 180, 1, 126, 43, 180, 1, 127, 182, 0, 208, 167, 0, 23, 42, 43]
abbrev dktX0_does_0 : List UInt8 := dkwX0_does_0 ++ dktX0_does_1
theorem dksX0_does_0 : cX0_does.data.toList.drop 0 = dktX0_does_0 := by decide +kernel
theorem dksX0_does_1 : cX0_does.data.toList.drop 24 = dktX0_does_1 := dk_seg dksX0_does_0 24 rfl rfl
theorem dksX0_does_2 : cX0_does.data.toList.drop 47 = dktX0_does_2 := dk_seg dksX0_does_1 23 rfl rfl
theorem dksX0_does_3 : cX0_does.data.toList.drop 71 = dktX0_does_3 := dk_seg dksX0_does_2 24 rfl rfl
theorem dksX0_does_4 : cX0_does.data.toList.drop 93 = dktX0_does_4 := dk_seg dksX0_does_3 22 rfl rfl
theorem dksX0_does_5 : cX0_does.data.toList.drop 116 = dktX0_does_5 := dk_seg dksX0_does_4 23 rfl rfl
theorem dksX0_does_6 : cX0_does.data.toList.drop 139 = dktX0_does_6 := dk_seg dksX0_does_5 23 rfl rfl
theorem dX0_does_0 : decode cX0_does 0 = .ok (.aload_n 1, 1) := dk_43 (dk_at dksX0_does_0 0 rfl rfl)
theorem dX0_does_1 : decode cX0_does 1 = .ok (.getfield 378, 3) := dk_180 1 122 (dk_at dksX0_does_0 1 rfl rfl)
theorem dX0_does_4 : decode cX0_does 4 = .ok (.ifCond .ne 18, 3) := dk_154 0 18 (dk_at dksX0_does_0 4 rfl rfl)
theorem dX0_does_7 : decode cX0_does 7 = .ok (.aload_n 0, 1) := dk_42 (dk_at dksX0_does_0 7 rfl rfl)
theorem dX0_does_8 : decode cX0_does 8 = .ok (.aload_n 1, 1) := dk_43 (dk_at dksX0_does_0 8 rfl rfl)
theorem dX0_does_9 : decode cX0_does 9 = .ok (.getfield 382, 3) := dk_180 1 126 (dk_at dksX0_does_0 9 rfl rfl)
theorem dX0_does_12 : decode cX0_does 12 = .ok (.aload_n 1, 1) := dk_43 (dk_at dksX0_does_0 12 rfl rfl)
theorem dX0_does_13 : decode cX0_does 13 = .ok (.getfield 383, 3) := dk_180 1 127 (dk_at dksX0_does_0 13 rfl rfl)
theorem dX0_does_16 : decode cX0_does 16 = .ok (.invokevirtual 208, 3) := dk_182 0 208 (dk_at dksX0_does_0 16 rfl rfl)
theorem dX0_does_19 : decode cX0_does 19 = .ok (.goto 23, 3) := dk_167 0 23 (dk_at dksX0_does_0 19 rfl rfl)
theorem dX0_does_22 : decode cX0_does 22 = .ok (.aload_n 0, 1) := dk_42 (dk_at dksX0_does_0 22 rfl rfl)
theorem dX0_does_23 : decode cX0_does 23 = .ok (.aload_n 1, 1) := dk_43 (dk_at dksX0_does_0 23 rfl rfl)
theorem dX0_does_24 : decode cX0_does 24 = .ok (.getfield 382, 3) := dk_180 1 126 (dk_at dksX0_does_1 0 rfl rfl)
theorem dX0_does_27 : decode cX0_does 27 = .ok (.aload_n 1, 1) := dk_43 (dk_at dksX0_does_1 3 rfl rfl)
theorem dX0_does_28 : decode cX0_does 28 = .ok (.getfield 386, 3) := dk_180 1 130 (dk_at dksX0_does_1 4 rfl rfl)
theorem dX0_does_31 : decode cX0_does 31 = .ok (.aload_n 1, 1) := dk_43 (dk_at dksX0_does_1 7 rfl rfl)
theorem dX0_does_32 : decode cX0_does 32 = .ok (.getfield 389, 3) := dk_180 1 133 (dk_at dksX0_does_1 8 rfl rfl)
theorem dX0_does_35 : decode cX0_does 35 = .ok (.aload_n 1, 1) := dk_43 (dk_at dksX0_does_1 11 rfl rfl)
theorem dX0_does_36 : decode cX0_does 36 = .ok (.getfield 383, 3) := dk_180 1 127 (dk_at dksX0_does_1 12 rfl rfl)
theorem dX0_does_39 : decode cX0_does 39 = .ok (.invokevirtual 219, 3) := dk_182 0 219 (dk_at dksX0_does_1 15 rfl rfl)
theorem dX0_does_42 : decode cX0_does 42 = .ok (.istore_n 3, 1) := dk_62 (dk_at dksX0_does_1 18 rfl rfl)
theorem dX0_does_43 : decode cX0_does 43 = .ok (.iload_n 3, 1) := dk_29 (dk_at dksX0_does_1 19 rfl rfl)
theorem dX0_does_44 : decode cX0_does 44 = .ok (.ifCond .eq 12, 3) := dk_153 0 12 (dk_at dksX0_does_1 20 rfl rfl)
theorem dX0_does_47 : decode cX0_does 47 = .ok (.new 392, 3) := dk_187 1 136 (dk_at dksX0_does_2 0 rfl rfl)
theorem dX0_does_50 : decode cX0_does 50 = .ok (.dup, 1) := dk_89 (dk_at dksX0_does_2 3 rfl rfl)
theorem dX0_does_51 : decode cX0_does 51 = .ok (.iload_n 2, 1) := dk_28 (dk_at dksX0_does_2 4 rfl rfl)
theorem dX0_does_52 : decode cX0_does 52 = .ok (.invokespecial 394, 3) := dk_183 1 138 (dk_at dksX0_does_2 5 rfl rfl)
theorem dX0_does_55 : decode cX0_does 55 = .ok (.athrow, 1) := dk_191 (dk_at dksX0_does_2 8 rfl rfl)
theorem dX0_does_56 : decode cX0_does 56 = .ok (.aload_n 0, 1) := dk_42 (dk_at dksX0_does_2 9 rfl rfl)
theorem dX0_does_57 : decode cX0_does 57 = .ok (.getfield 38, 3) := dk_180 0 38 (dk_at dksX0_does_2 10 rfl rfl)
theorem dX0_does_60 : decode cX0_does 60 = .ok (.aload_n 1, 1) := dk_43 (dk_at dksX0_does_2 13 rfl rfl)
theorem dX0_does_61 : decode cX0_does 61 = .ok (.getfield 378, 3) := dk_180 1 122 (dk_at dksX0_does_2 14 rfl rfl)
theorem dX0_does_64 : decode cX0_does 64 = .ok (.ifCond .ne 21, 3) := dk_154 0 21 (dk_at dksX0_does_2 17 rfl rfl)
theorem dX0_does_67 : decode cX0_does 67 = .ok (.new 211, 3) := dk_187 0 211 (dk_at dksX0_does_2 20 rfl rfl)
theorem dX0_does_70 : decode cX0_does 70 = .ok (.dup, 1) := dk_89 (dk_at dksX0_does_2 23 rfl rfl)
theorem dX0_does_71 : decode cX0_does 71 = .ok (.aload_n 1, 1) := dk_43 (dk_at dksX0_does_3 0 rfl rfl)
theorem dX0_does_72 : decode cX0_does 72 = .ok (.getfield 382, 3) := dk_180 1 126 (dk_at dksX0_does_3 1 rfl rfl)
theorem dX0_does_75 : decode cX0_does 75 = .ok (.aload_n 1, 1) := dk_43 (dk_at dksX0_does_3 4 rfl rfl)
theorem dX0_does_76 : decode cX0_does 76 = .ok (.getfield 383, 3) := dk_180 1 127 (dk_at dksX0_does_3 5 rfl rfl)
theorem dX0_does_79 : decode cX0_does 79 = .ok (.invokespecial 213, 3) := dk_183 0 213 (dk_at dksX0_does_3 8 rfl rfl)
theorem dX0_does_82 : decode cX0_does 82 = .ok (.goto 60, 3) := dk_167 0 60 (dk_at dksX0_does_3 11 rfl rfl)
theorem dX0_does_85 : decode cX0_does 85 = .ok (.aload_n 1, 1) := dk_43 (dk_at dksX0_does_3 14 rfl rfl)
theorem dX0_does_86 : decode cX0_does 86 = .ok (.getfield 378, 3) := dk_180 1 122 (dk_at dksX0_does_3 15 rfl rfl)
theorem dX0_does_89 : decode cX0_does 89 = .ok (.iconst 1, 1) := dk_4 (dk_at dksX0_does_3 18 rfl rfl)
theorem dX0_does_90 : decode cX0_does 90 = .ok (.if_icmp .ne 29, 3) := dk_160 0 29 (dk_at dksX0_does_3 19 rfl rfl)
theorem dX0_does_93 : decode cX0_does 93 = .ok (.new 223, 3) := dk_187 0 223 (dk_at dksX0_does_4 0 rfl rfl)
theorem dX0_does_96 : decode cX0_does 96 = .ok (.dup, 1) := dk_89 (dk_at dksX0_does_4 3 rfl rfl)
theorem dX0_does_97 : decode cX0_does 97 = .ok (.aload_n 1, 1) := dk_43 (dk_at dksX0_does_4 4 rfl rfl)
theorem dX0_does_98 : decode cX0_does 98 = .ok (.getfield 382, 3) := dk_180 1 126 (dk_at dksX0_does_4 5 rfl rfl)
theorem dX0_does_101 : decode cX0_does 101 = .ok (.aload_n 1, 1) := dk_43 (dk_at dksX0_does_4 8 rfl rfl)
theorem dX0_does_102 : decode cX0_does 102 = .ok (.getfield 386, 3) := dk_180 1 130 (dk_at dksX0_does_4 9 rfl rfl)
theorem dX0_does_105 : decode cX0_does 105 = .ok (.aload_n 1, 1) := dk_43 (dk_at dksX0_does_4 12 rfl rfl)
theorem dX0_does_106 : decode cX0_does 106 = .ok (.getfield 389, 3) := dk_180 1 133 (dk_at dksX0_does_4 13 rfl rfl)
theorem dX0_does_109 : decode cX0_does 109 = .ok (.aload_n 1, 1) := dk_43 (dk_at dksX0_does_4 16 rfl rfl)
theorem dX0_does_110 : decode cX0_does 110 = .ok (.getfield 383, 3) := dk_180 1 127 (dk_at dksX0_does_4 17 rfl rfl)
theorem dX0_does_113 : decode cX0_does 113 = .ok (.invokespecial 225, 3) := dk_183 0 225 (dk_at dksX0_does_4 20 rfl rfl)
theorem dX0_does_116 : decode cX0_does 116 = .ok (.goto 26, 3) := dk_167 0 26 (dk_at dksX0_does_5 0 rfl rfl)
theorem dX0_does_119 : decode cX0_does 119 = .ok (.new 228, 3) := dk_187 0 228 (dk_at dksX0_does_5 3 rfl rfl)
theorem dX0_does_122 : decode cX0_does 122 = .ok (.dup, 1) := dk_89 (dk_at dksX0_does_5 6 rfl rfl)
theorem dX0_does_123 : decode cX0_does 123 = .ok (.aload_n 1, 1) := dk_43 (dk_at dksX0_does_5 7 rfl rfl)
theorem dX0_does_124 : decode cX0_does 124 = .ok (.getfield 382, 3) := dk_180 1 126 (dk_at dksX0_does_5 8 rfl rfl)
theorem dX0_does_127 : decode cX0_does 127 = .ok (.aload_n 1, 1) := dk_43 (dk_at dksX0_does_5 11 rfl rfl)
theorem dX0_does_128 : decode cX0_does 128 = .ok (.getfield 386, 3) := dk_180 1 130 (dk_at dksX0_does_5 12 rfl rfl)
theorem dX0_does_131 : decode cX0_does 131 = .ok (.aload_n 1, 1) := dk_43 (dk_at dksX0_does_5 15 rfl rfl)
theorem dX0_does_132 : decode cX0_does 132 = .ok (.getfield 389, 3) := dk_180 1 133 (dk_at dksX0_does_5 16 rfl rfl)
theorem dX0_does_135 : decode cX0_does 135 = .ok (.aload_n 1, 1) := dk_43 (dk_at dksX0_does_5 19 rfl rfl)
theorem dX0_does_136 : decode cX0_does 136 = .ok (.getfield 383, 3) := dk_180 1 127 (dk_at dksX0_does_5 20 rfl rfl)
theorem dX0_does_139 : decode cX0_does 139 = .ok (.invokespecial 230, 3) := dk_183 0 230 (dk_at dksX0_does_6 0 rfl rfl)
theorem dX0_does_142 : decode cX0_does 142 = .ok (.invokevirtual 205, 3) := dk_182 0 205 (dk_at dksX0_does_6 3 rfl rfl)
theorem dX0_does_145 : decode cX0_does 145 = .ok (.istore 4, 2) := dk_54 4 (dk_at dksX0_does_6 6 rfl rfl)
theorem dX0_does_147 : decode cX0_does 147 = .ok (.return_, 1) := dk_177 (dk_at dksX0_does_6 8 rfl rfl)
abbrev cX0_fault : ByteArray := prog_1_method_64_code
def yX0_fault : MethodName := ⟨RX0, "fault", "(Z)I"⟩
def dkwX0_fault_1 : List UInt8 := [167, 0, 4, 28, 172]
abbrev dktX0_fault_1 : List UInt8 := dkwX0_fault_1 ++ []
def dkwX0_fault_0 : List UInt8 := [27, 153, 0, 10, 42, 180, 0, 35, 167, 0, 7, 42, 180, 0, 31, 61, 28, 156, 0, 8, 16, 253]
abbrev dktX0_fault_0 : List UInt8 := dkwX0_fault_0 ++ dktX0_fault_1
theorem dksX0_fault_0 : cX0_fault.data.toList.drop 0 = dktX0_fault_0 := by decide +kernel
theorem dksX0_fault_1 : cX0_fault.data.toList.drop 22 = dktX0_fault_1 := dk_seg dksX0_fault_0 22 rfl rfl
theorem dX0_fault_0 : decode cX0_fault 0 = .ok (.iload_n 1, 1) := dk_27 (dk_at dksX0_fault_0 0 rfl rfl)
theorem dX0_fault_1 : decode cX0_fault 1 = .ok (.ifCond .eq 10, 3) := dk_153 0 10 (dk_at dksX0_fault_0 1 rfl rfl)
theorem dX0_fault_4 : decode cX0_fault 4 = .ok (.aload_n 0, 1) := dk_42 (dk_at dksX0_fault_0 4 rfl rfl)
theorem dX0_fault_5 : decode cX0_fault 5 = .ok (.getfield 35, 3) := dk_180 0 35 (dk_at dksX0_fault_0 5 rfl rfl)
theorem dX0_fault_8 : decode cX0_fault 8 = .ok (.goto 7, 3) := dk_167 0 7 (dk_at dksX0_fault_0 8 rfl rfl)
theorem dX0_fault_11 : decode cX0_fault 11 = .ok (.aload_n 0, 1) := dk_42 (dk_at dksX0_fault_0 11 rfl rfl)
theorem dX0_fault_12 : decode cX0_fault 12 = .ok (.getfield 31, 3) := dk_180 0 31 (dk_at dksX0_fault_0 12 rfl rfl)
theorem dX0_fault_15 : decode cX0_fault 15 = .ok (.istore_n 2, 1) := dk_61 (dk_at dksX0_fault_0 15 rfl rfl)
theorem dX0_fault_16 : decode cX0_fault 16 = .ok (.iload_n 2, 1) := dk_28 (dk_at dksX0_fault_0 16 rfl rfl)
theorem dX0_fault_17 : decode cX0_fault 17 = .ok (.ifCond .ge 8, 3) := dk_156 0 8 (dk_at dksX0_fault_0 17 rfl rfl)
theorem dX0_fault_20 : decode cX0_fault 20 = .ok (.bipush (-3), 2) := dk_16 253 (dk_at dksX0_fault_0 20 rfl rfl)
theorem dX0_fault_22 : decode cX0_fault 22 = .ok (.goto 4, 3) := dk_167 0 4 (dk_at dksX0_fault_1 0 rfl rfl)
theorem dX0_fault_25 : decode cX0_fault 25 = .ok (.iload_n 2, 1) := dk_28 (dk_at dksX0_fault_1 3 rfl rfl)
theorem dX0_fault_26 : decode cX0_fault 26 = .ok (.ireturn, 1) := dk_172 (dk_at dksX0_fault_1 4 rfl rfl)
abbrev cX0_report : ByteArray := prog_1_method_66_code
def yX0_report : MethodName := ⟨RX0, "report", "(I)I"⟩
def dkwX0_report_8 : List UInt8 := [42, 25, 4, 182, 1, 185, 181, 0, 27, 42, 180, 0, 27, 182, 1, 188, 172]
abbrev dktX0_report_8 : List UInt8 := dkwX0_report_8 ++ []
def dkwX0_report_7 : List UInt8 := [180, 1, 21, 182, 0, 106, 192, 0, 110, 21, 5, 182, 1, 181, 182, 1, 174, 87, 132, 5, 1, 167, 255, 200]
abbrev dktX0_report_7 : List UInt8 := dkwX0_report_7 ++ dktX0_report_8
def dkwX0_report_6 : List UInt8 := [184, 0, 199, 153, 0, 37, 25, 4, 16, 32, 182, 1, 118, 42, 42, 180, 0, 38, 180, 0, 95, 45]
abbrev dktX0_report_6 : List UInt8 := dkwX0_report_6 ++ dktX0_report_7
def dkwX0_report_5 : List UInt8 := [19, 1, 179, 182, 1, 174, 87, 3, 54, 5, 21, 5, 16, 6, 162, 0, 55, 45, 180, 1, 24, 21, 5]
abbrev dktX0_report_5 : List UInt8 := dkwX0_report_5 ++ dktX0_report_6
def dkwX0_report_4 : List UInt8 := [182, 1, 169, 87, 25, 4, 19, 1, 177, 182, 1, 174, 16, 97, 45, 180, 1, 21, 96, 146, 182, 1, 118]
abbrev dktX0_report_4 : List UInt8 := dkwX0_report_4 ++ dktX0_report_5
def dkwX0_report_3 : List UInt8 := [180, 1, 16, 182, 1, 169, 87, 167, 0, 21, 25, 4, 16, 61, 182, 1, 118, 45, 180, 1, 16, 16, 100, 100]
abbrev dktX0_report_3 : List UInt8 := dkwX0_report_3 ++ dktX0_report_4
def dkwX0_report_2 : List UInt8 := [182, 1, 169, 19, 1, 172, 182, 1, 174, 87, 45, 180, 1, 16, 16, 100, 162, 0, 16, 25, 4, 45]
abbrev dktX0_report_2 : List UInt8 := dkwX0_report_2 ++ dktX0_report_3
def dkwX0_report_1 : List UInt8 := [44, 180, 1, 13, 27, 182, 0, 106, 192, 1, 17, 78, 187, 0, 7, 89, 183, 0, 9, 58, 4, 25, 4, 27]
abbrev dktX0_report_1 : List UInt8 := dkwX0_report_1 ++ dktX0_report_2
def dkwX0_report_0 : List UInt8 := [42, 182, 1, 5, 77, 27, 3, 44, 180, 1, 13, 182, 0, 72, 4, 100, 184, 0, 98, 154, 0, 5, 2, 172]
abbrev dktX0_report_0 : List UInt8 := dkwX0_report_0 ++ dktX0_report_1
theorem dksX0_report_0 : cX0_report.data.toList.drop 0 = dktX0_report_0 := by decide +kernel
theorem dksX0_report_1 : cX0_report.data.toList.drop 24 = dktX0_report_1 := dk_seg dksX0_report_0 24 rfl rfl
theorem dksX0_report_2 : cX0_report.data.toList.drop 48 = dktX0_report_2 := dk_seg dksX0_report_1 24 rfl rfl
theorem dksX0_report_3 : cX0_report.data.toList.drop 70 = dktX0_report_3 := dk_seg dksX0_report_2 22 rfl rfl
theorem dksX0_report_4 : cX0_report.data.toList.drop 94 = dktX0_report_4 := dk_seg dksX0_report_3 24 rfl rfl
theorem dksX0_report_5 : cX0_report.data.toList.drop 117 = dktX0_report_5 := dk_seg dksX0_report_4 23 rfl rfl
theorem dksX0_report_6 : cX0_report.data.toList.drop 140 = dktX0_report_6 := dk_seg dksX0_report_5 23 rfl rfl
theorem dksX0_report_7 : cX0_report.data.toList.drop 162 = dktX0_report_7 := dk_seg dksX0_report_6 22 rfl rfl
theorem dksX0_report_8 : cX0_report.data.toList.drop 186 = dktX0_report_8 := dk_seg dksX0_report_7 24 rfl rfl
theorem dX0_report_0 : decode cX0_report 0 = .ok (.aload_n 0, 1) := dk_42 (dk_at dksX0_report_0 0 rfl rfl)
theorem dX0_report_1 : decode cX0_report 1 = .ok (.invokevirtual 261, 3) := dk_182 1 5 (dk_at dksX0_report_0 1 rfl rfl)
theorem dX0_report_4 : decode cX0_report 4 = .ok (.astore_n 2, 1) := dk_77 (dk_at dksX0_report_0 4 rfl rfl)
theorem dX0_report_5 : decode cX0_report 5 = .ok (.iload_n 1, 1) := dk_27 (dk_at dksX0_report_0 5 rfl rfl)
theorem dX0_report_6 : decode cX0_report 6 = .ok (.iconst 0, 1) := dk_3 (dk_at dksX0_report_0 6 rfl rfl)
theorem dX0_report_7 : decode cX0_report 7 = .ok (.aload_n 2, 1) := dk_44 (dk_at dksX0_report_0 7 rfl rfl)
theorem dX0_report_8 : decode cX0_report 8 = .ok (.getfield 269, 3) := dk_180 1 13 (dk_at dksX0_report_0 8 rfl rfl)
theorem dX0_report_11 : decode cX0_report 11 = .ok (.invokevirtual 72, 3) := dk_182 0 72 (dk_at dksX0_report_0 11 rfl rfl)
theorem dX0_report_14 : decode cX0_report 14 = .ok (.iconst 1, 1) := dk_4 (dk_at dksX0_report_0 14 rfl rfl)
theorem dX0_report_15 : decode cX0_report 15 = .ok (.isub, 1) := dk_100 (dk_at dksX0_report_0 15 rfl rfl)
theorem dX0_report_16 : decode cX0_report 16 = .ok (.invokestatic 98, 3) := dk_184 0 98 (dk_at dksX0_report_0 16 rfl rfl)
theorem dX0_report_19 : decode cX0_report 19 = .ok (.ifCond .ne 5, 3) := dk_154 0 5 (dk_at dksX0_report_0 19 rfl rfl)
theorem dX0_report_22 : decode cX0_report 22 = .ok (.iconst (-1), 1) := dk_2 (dk_at dksX0_report_0 22 rfl rfl)
theorem dX0_report_23 : decode cX0_report 23 = .ok (.ireturn, 1) := dk_172 (dk_at dksX0_report_0 23 rfl rfl)
theorem dX0_report_24 : decode cX0_report 24 = .ok (.aload_n 2, 1) := dk_44 (dk_at dksX0_report_1 0 rfl rfl)
theorem dX0_report_25 : decode cX0_report 25 = .ok (.getfield 269, 3) := dk_180 1 13 (dk_at dksX0_report_1 1 rfl rfl)
theorem dX0_report_28 : decode cX0_report 28 = .ok (.iload_n 1, 1) := dk_27 (dk_at dksX0_report_1 4 rfl rfl)
theorem dX0_report_29 : decode cX0_report 29 = .ok (.invokevirtual 106, 3) := dk_182 0 106 (dk_at dksX0_report_1 5 rfl rfl)
theorem dX0_report_32 : decode cX0_report 32 = .ok (.checkcast 273, 3) := dk_192 1 17 (dk_at dksX0_report_1 8 rfl rfl)
theorem dX0_report_35 : decode cX0_report 35 = .ok (.astore_n 3, 1) := dk_78 (dk_at dksX0_report_1 11 rfl rfl)
theorem dX0_report_36 : decode cX0_report 36 = .ok (.new 7, 3) := dk_187 0 7 (dk_at dksX0_report_1 12 rfl rfl)
theorem dX0_report_39 : decode cX0_report 39 = .ok (.dup, 1) := dk_89 (dk_at dksX0_report_1 15 rfl rfl)
theorem dX0_report_40 : decode cX0_report 40 = .ok (.invokespecial 9, 3) := dk_183 0 9 (dk_at dksX0_report_1 16 rfl rfl)
theorem dX0_report_43 : decode cX0_report 43 = .ok (.astore 4, 2) := dk_58 4 (dk_at dksX0_report_1 19 rfl rfl)
theorem dX0_report_45 : decode cX0_report 45 = .ok (.aload 4, 2) := dk_25 4 (dk_at dksX0_report_1 21 rfl rfl)
theorem dX0_report_47 : decode cX0_report 47 = .ok (.iload_n 1, 1) := dk_27 (dk_at dksX0_report_1 23 rfl rfl)
theorem dX0_report_48 : decode cX0_report 48 = .ok (.invokevirtual 425, 3) := dk_182 1 169 (dk_at dksX0_report_2 0 rfl rfl)
theorem dX0_report_51 : decode cX0_report 51 = .ok (.ldc_w 428, 3) := dk_19 1 172 (dk_at dksX0_report_2 3 rfl rfl)
theorem dX0_report_54 : decode cX0_report 54 = .ok (.invokevirtual 430, 3) := dk_182 1 174 (dk_at dksX0_report_2 6 rfl rfl)
theorem dX0_report_57 : decode cX0_report 57 = .ok (.pop, 1) := dk_87 (dk_at dksX0_report_2 9 rfl rfl)
theorem dX0_report_58 : decode cX0_report 58 = .ok (.aload_n 3, 1) := dk_45 (dk_at dksX0_report_2 10 rfl rfl)
theorem dX0_report_59 : decode cX0_report 59 = .ok (.getfield 272, 3) := dk_180 1 16 (dk_at dksX0_report_2 11 rfl rfl)
theorem dX0_report_62 : decode cX0_report 62 = .ok (.bipush 100, 2) := dk_16 100 (dk_at dksX0_report_2 14 rfl rfl)
theorem dX0_report_64 : decode cX0_report 64 = .ok (.if_icmp .ge 16, 3) := dk_162 0 16 (dk_at dksX0_report_2 16 rfl rfl)
theorem dX0_report_67 : decode cX0_report 67 = .ok (.aload 4, 2) := dk_25 4 (dk_at dksX0_report_2 19 rfl rfl)
theorem dX0_report_69 : decode cX0_report 69 = .ok (.aload_n 3, 1) := dk_45 (dk_at dksX0_report_2 21 rfl rfl)
theorem dX0_report_70 : decode cX0_report 70 = .ok (.getfield 272, 3) := dk_180 1 16 (dk_at dksX0_report_3 0 rfl rfl)
theorem dX0_report_73 : decode cX0_report 73 = .ok (.invokevirtual 425, 3) := dk_182 1 169 (dk_at dksX0_report_3 3 rfl rfl)
theorem dX0_report_76 : decode cX0_report 76 = .ok (.pop, 1) := dk_87 (dk_at dksX0_report_3 6 rfl rfl)
theorem dX0_report_77 : decode cX0_report 77 = .ok (.goto 21, 3) := dk_167 0 21 (dk_at dksX0_report_3 7 rfl rfl)
theorem dX0_report_80 : decode cX0_report 80 = .ok (.aload 4, 2) := dk_25 4 (dk_at dksX0_report_3 10 rfl rfl)
theorem dX0_report_82 : decode cX0_report 82 = .ok (.bipush 61, 2) := dk_16 61 (dk_at dksX0_report_3 12 rfl rfl)
theorem dX0_report_84 : decode cX0_report 84 = .ok (.invokevirtual 374, 3) := dk_182 1 118 (dk_at dksX0_report_3 14 rfl rfl)
theorem dX0_report_87 : decode cX0_report 87 = .ok (.aload_n 3, 1) := dk_45 (dk_at dksX0_report_3 17 rfl rfl)
theorem dX0_report_88 : decode cX0_report 88 = .ok (.getfield 272, 3) := dk_180 1 16 (dk_at dksX0_report_3 18 rfl rfl)
theorem dX0_report_91 : decode cX0_report 91 = .ok (.bipush 100, 2) := dk_16 100 (dk_at dksX0_report_3 21 rfl rfl)
theorem dX0_report_93 : decode cX0_report 93 = .ok (.isub, 1) := dk_100 (dk_at dksX0_report_3 23 rfl rfl)
theorem dX0_report_94 : decode cX0_report 94 = .ok (.invokevirtual 425, 3) := dk_182 1 169 (dk_at dksX0_report_4 0 rfl rfl)
theorem dX0_report_97 : decode cX0_report 97 = .ok (.pop, 1) := dk_87 (dk_at dksX0_report_4 3 rfl rfl)
theorem dX0_report_98 : decode cX0_report 98 = .ok (.aload 4, 2) := dk_25 4 (dk_at dksX0_report_4 4 rfl rfl)
theorem dX0_report_100 : decode cX0_report 100 = .ok (.ldc_w 433, 3) := dk_19 1 177 (dk_at dksX0_report_4 6 rfl rfl)
theorem dX0_report_103 : decode cX0_report 103 = .ok (.invokevirtual 430, 3) := dk_182 1 174 (dk_at dksX0_report_4 9 rfl rfl)
theorem dX0_report_106 : decode cX0_report 106 = .ok (.bipush 97, 2) := dk_16 97 (dk_at dksX0_report_4 12 rfl rfl)
theorem dX0_report_108 : decode cX0_report 108 = .ok (.aload_n 3, 1) := dk_45 (dk_at dksX0_report_4 14 rfl rfl)
theorem dX0_report_109 : decode cX0_report 109 = .ok (.getfield 277, 3) := dk_180 1 21 (dk_at dksX0_report_4 15 rfl rfl)
theorem dX0_report_112 : decode cX0_report 112 = .ok (.iadd, 1) := dk_96 (dk_at dksX0_report_4 18 rfl rfl)
theorem dX0_report_113 : decode cX0_report 113 = .ok (.i2c, 1) := dk_146 (dk_at dksX0_report_4 19 rfl rfl)
theorem dX0_report_114 : decode cX0_report 114 = .ok (.invokevirtual 374, 3) := dk_182 1 118 (dk_at dksX0_report_4 20 rfl rfl)
theorem dX0_report_117 : decode cX0_report 117 = .ok (.ldc_w 435, 3) := dk_19 1 179 (dk_at dksX0_report_5 0 rfl rfl)
theorem dX0_report_120 : decode cX0_report 120 = .ok (.invokevirtual 430, 3) := dk_182 1 174 (dk_at dksX0_report_5 3 rfl rfl)
theorem dX0_report_123 : decode cX0_report 123 = .ok (.pop, 1) := dk_87 (dk_at dksX0_report_5 6 rfl rfl)
theorem dX0_report_124 : decode cX0_report 124 = .ok (.iconst 0, 1) := dk_3 (dk_at dksX0_report_5 7 rfl rfl)
theorem dX0_report_125 : decode cX0_report 125 = .ok (.istore 5, 2) := dk_54 5 (dk_at dksX0_report_5 8 rfl rfl)
theorem dX0_report_127 : decode cX0_report 127 = .ok (.iload 5, 2) := dk_21 5 (dk_at dksX0_report_5 10 rfl rfl)
theorem dX0_report_129 : decode cX0_report 129 = .ok (.bipush 6, 2) := dk_16 6 (dk_at dksX0_report_5 12 rfl rfl)
theorem dX0_report_131 : decode cX0_report 131 = .ok (.if_icmp .ge 55, 3) := dk_162 0 55 (dk_at dksX0_report_5 14 rfl rfl)
theorem dX0_report_134 : decode cX0_report 134 = .ok (.aload_n 3, 1) := dk_45 (dk_at dksX0_report_5 17 rfl rfl)
theorem dX0_report_135 : decode cX0_report 135 = .ok (.getfield 280, 3) := dk_180 1 24 (dk_at dksX0_report_5 18 rfl rfl)
theorem dX0_report_138 : decode cX0_report 138 = .ok (.iload 5, 2) := dk_21 5 (dk_at dksX0_report_5 21 rfl rfl)
theorem dX0_report_140 : decode cX0_report 140 = .ok (.invokestatic 199, 3) := dk_184 0 199 (dk_at dksX0_report_6 0 rfl rfl)
theorem dX0_report_143 : decode cX0_report 143 = .ok (.ifCond .eq 37, 3) := dk_153 0 37 (dk_at dksX0_report_6 3 rfl rfl)
theorem dX0_report_146 : decode cX0_report 146 = .ok (.aload 4, 2) := dk_25 4 (dk_at dksX0_report_6 6 rfl rfl)
theorem dX0_report_148 : decode cX0_report 148 = .ok (.bipush 32, 2) := dk_16 32 (dk_at dksX0_report_6 8 rfl rfl)
theorem dX0_report_150 : decode cX0_report 150 = .ok (.invokevirtual 374, 3) := dk_182 1 118 (dk_at dksX0_report_6 10 rfl rfl)
theorem dX0_report_153 : decode cX0_report 153 = .ok (.aload_n 0, 1) := dk_42 (dk_at dksX0_report_6 13 rfl rfl)
theorem dX0_report_154 : decode cX0_report 154 = .ok (.aload_n 0, 1) := dk_42 (dk_at dksX0_report_6 14 rfl rfl)
theorem dX0_report_155 : decode cX0_report 155 = .ok (.getfield 38, 3) := dk_180 0 38 (dk_at dksX0_report_6 15 rfl rfl)
theorem dX0_report_158 : decode cX0_report 158 = .ok (.getfield 95, 3) := dk_180 0 95 (dk_at dksX0_report_6 18 rfl rfl)
theorem dX0_report_161 : decode cX0_report 161 = .ok (.aload_n 3, 1) := dk_45 (dk_at dksX0_report_6 21 rfl rfl)
theorem dX0_report_162 : decode cX0_report 162 = .ok (.getfield 277, 3) := dk_180 1 21 (dk_at dksX0_report_7 0 rfl rfl)
theorem dX0_report_165 : decode cX0_report 165 = .ok (.invokevirtual 106, 3) := dk_182 0 106 (dk_at dksX0_report_7 3 rfl rfl)
theorem dX0_report_168 : decode cX0_report 168 = .ok (.checkcast 110, 3) := dk_192 0 110 (dk_at dksX0_report_7 6 rfl rfl)
theorem dX0_report_171 : decode cX0_report 171 = .ok (.iload 5, 2) := dk_21 5 (dk_at dksX0_report_7 9 rfl rfl)
theorem dX0_report_173 : decode cX0_report 173 = .ok (.invokevirtual 437, 3) := dk_182 1 181 (dk_at dksX0_report_7 11 rfl rfl)
theorem dX0_report_176 : decode cX0_report 176 = .ok (.invokevirtual 430, 3) := dk_182 1 174 (dk_at dksX0_report_7 14 rfl rfl)
theorem dX0_report_179 : decode cX0_report 179 = .ok (.pop, 1) := dk_87 (dk_at dksX0_report_7 17 rfl rfl)
theorem dX0_report_180 : decode cX0_report 180 = .ok (.iinc 5 1, 3) := dk_132 5 1 (dk_at dksX0_report_7 18 rfl rfl)
theorem dX0_report_183 : decode cX0_report 183 = .ok (.goto (-56), 3) := dk_167 255 200 (dk_at dksX0_report_7 21 rfl rfl)
theorem dX0_report_186 : decode cX0_report 186 = .ok (.aload_n 0, 1) := dk_42 (dk_at dksX0_report_8 0 rfl rfl)
theorem dX0_report_187 : decode cX0_report 187 = .ok (.aload 4, 2) := dk_25 4 (dk_at dksX0_report_8 1 rfl rfl)
theorem dX0_report_189 : decode cX0_report 189 = .ok (.invokevirtual 441, 3) := dk_182 1 185 (dk_at dksX0_report_8 3 rfl rfl)
theorem dX0_report_192 : decode cX0_report 192 = .ok (.putfield 27, 3) := dk_181 0 27 (dk_at dksX0_report_8 6 rfl rfl)
theorem dX0_report_195 : decode cX0_report 195 = .ok (.aload_n 0, 1) := dk_42 (dk_at dksX0_report_8 9 rfl rfl)
theorem dX0_report_196 : decode cX0_report 196 = .ok (.getfield 27, 3) := dk_180 0 27 (dk_at dksX0_report_8 10 rfl rfl)
theorem dX0_report_199 : decode cX0_report 199 = .ok (.invokevirtual 444, 3) := dk_182 1 188 (dk_at dksX0_report_8 13 rfl rfl)
theorem dX0_report_202 : decode cX0_report 202 = .ok (.ireturn, 1) := dk_172 (dk_at dksX0_report_8 16 rfl rfl)
abbrev cX0_textOf : ByteArray := prog_1_method_65_code
def yX0_textOf : MethodName := ⟨RX0, "textOf", "(LVersionSolver$Pack;I)Ljava/lang/String;"⟩
def dkwX0_textOf_1 : List UInt8 := [182, 1, 165, 176]
abbrev dktX0_textOf_1 : List UInt8 := dkwX0_textOf_1 ++ []
def dkwX0_textOf_0 : List UInt8 := [28, 8, 160, 0, 9, 19, 1, 163, 167, 0, 17, 43, 180, 0, 112, 28, 182, 0, 106, 192, 0, 46]
abbrev dktX0_textOf_0 : List UInt8 := dkwX0_textOf_0 ++ dktX0_textOf_1
theorem dksX0_textOf_0 : cX0_textOf.data.toList.drop 0 = dktX0_textOf_0 := by decide +kernel
theorem dksX0_textOf_1 : cX0_textOf.data.toList.drop 22 = dktX0_textOf_1 := dk_seg dksX0_textOf_0 22 rfl rfl
theorem dX0_textOf_0 : decode cX0_textOf 0 = .ok (.iload_n 2, 1) := dk_28 (dk_at dksX0_textOf_0 0 rfl rfl)
theorem dX0_textOf_1 : decode cX0_textOf 1 = .ok (.iconst 5, 1) := dk_8 (dk_at dksX0_textOf_0 1 rfl rfl)
theorem dX0_textOf_2 : decode cX0_textOf 2 = .ok (.if_icmp .ne 9, 3) := dk_160 0 9 (dk_at dksX0_textOf_0 2 rfl rfl)
theorem dX0_textOf_5 : decode cX0_textOf 5 = .ok (.ldc_w 419, 3) := dk_19 1 163 (dk_at dksX0_textOf_0 5 rfl rfl)
theorem dX0_textOf_8 : decode cX0_textOf 8 = .ok (.goto 17, 3) := dk_167 0 17 (dk_at dksX0_textOf_0 8 rfl rfl)
theorem dX0_textOf_11 : decode cX0_textOf 11 = .ok (.aload_n 1, 1) := dk_43 (dk_at dksX0_textOf_0 11 rfl rfl)
theorem dX0_textOf_12 : decode cX0_textOf 12 = .ok (.getfield 112, 3) := dk_180 0 112 (dk_at dksX0_textOf_0 12 rfl rfl)
theorem dX0_textOf_15 : decode cX0_textOf 15 = .ok (.iload_n 2, 1) := dk_28 (dk_at dksX0_textOf_0 15 rfl rfl)
theorem dX0_textOf_16 : decode cX0_textOf 16 = .ok (.invokevirtual 106, 3) := dk_182 0 106 (dk_at dksX0_textOf_0 16 rfl rfl)
theorem dX0_textOf_19 : decode cX0_textOf 19 = .ok (.checkcast 46, 3) := dk_192 0 46 (dk_at dksX0_textOf_0 19 rfl rfl)
theorem dX0_textOf_22 : decode cX0_textOf 22 = .ok (.invokevirtual 421, 3) := dk_182 1 165 (dk_at dksX0_textOf_1 0 rfl rfl)
theorem dX0_textOf_25 : decode cX0_textOf 25 = .ok (.areturn, 1) := dk_176 (dk_at dksX0_textOf_1 3 rfl rfl)
abbrev cX0_character : ByteArray := prog_1_method_67_code
def yX0_character : MethodName := ⟨RX0, "character", "(I)I"⟩
def dkwX0_character_1 : List UInt8 := [182, 1, 191, 167, 0, 4, 2, 172]
abbrev dktX0_character_1 : List UInt8 := dkwX0_character_1 ++ []
def dkwX0_character_0 : List UInt8 := [27, 3, 42, 180, 0, 27, 182, 1, 188, 4, 100, 184, 0, 98, 153, 0, 14, 42, 180, 0, 27, 27]
abbrev dktX0_character_0 : List UInt8 := dkwX0_character_0 ++ dktX0_character_1
theorem dksX0_character_0 : cX0_character.data.toList.drop 0 = dktX0_character_0 := by decide +kernel
theorem dksX0_character_1 : cX0_character.data.toList.drop 22 = dktX0_character_1 := dk_seg dksX0_character_0 22 rfl rfl
theorem dX0_character_0 : decode cX0_character 0 = .ok (.iload_n 1, 1) := dk_27 (dk_at dksX0_character_0 0 rfl rfl)
theorem dX0_character_1 : decode cX0_character 1 = .ok (.iconst 0, 1) := dk_3 (dk_at dksX0_character_0 1 rfl rfl)
theorem dX0_character_2 : decode cX0_character 2 = .ok (.aload_n 0, 1) := dk_42 (dk_at dksX0_character_0 2 rfl rfl)
theorem dX0_character_3 : decode cX0_character 3 = .ok (.getfield 27, 3) := dk_180 0 27 (dk_at dksX0_character_0 3 rfl rfl)
theorem dX0_character_6 : decode cX0_character 6 = .ok (.invokevirtual 444, 3) := dk_182 1 188 (dk_at dksX0_character_0 6 rfl rfl)
theorem dX0_character_9 : decode cX0_character 9 = .ok (.iconst 1, 1) := dk_4 (dk_at dksX0_character_0 9 rfl rfl)
theorem dX0_character_10 : decode cX0_character 10 = .ok (.isub, 1) := dk_100 (dk_at dksX0_character_0 10 rfl rfl)
theorem dX0_character_11 : decode cX0_character 11 = .ok (.invokestatic 98, 3) := dk_184 0 98 (dk_at dksX0_character_0 11 rfl rfl)
theorem dX0_character_14 : decode cX0_character 14 = .ok (.ifCond .eq 14, 3) := dk_153 0 14 (dk_at dksX0_character_0 14 rfl rfl)
theorem dX0_character_17 : decode cX0_character 17 = .ok (.aload_n 0, 1) := dk_42 (dk_at dksX0_character_0 17 rfl rfl)
theorem dX0_character_18 : decode cX0_character 18 = .ok (.getfield 27, 3) := dk_180 0 27 (dk_at dksX0_character_0 18 rfl rfl)
theorem dX0_character_21 : decode cX0_character 21 = .ok (.iload_n 1, 1) := dk_27 (dk_at dksX0_character_0 21 rfl rfl)
theorem dX0_character_22 : decode cX0_character 22 = .ok (.invokevirtual 447, 3) := dk_182 1 191 (dk_at dksX0_character_1 0 rfl rfl)
theorem dX0_character_25 : decode cX0_character 25 = .ok (.goto 4, 3) := dk_167 0 4 (dk_at dksX0_character_1 3 rfl rfl)
theorem dX0_character_28 : decode cX0_character 28 = .ok (.iconst (-1), 1) := dk_2 (dk_at dksX0_character_1 6 rfl rfl)
theorem dX0_character_29 : decode cX0_character 29 = .ok (.ireturn, 1) := dk_172 (dk_at dksX0_character_1 7 rfl rfl)
abbrev cX0_account : ByteArray := prog_1_method_71_code
def yX0_account : MethodName := ⟨RX0, "account", "(I)I"⟩
def dkwX0_account_6 : List UInt8 := [167, 0, 14, 42, 180, 0, 42, 182, 1, 115, 167, 0, 4, 2, 172]
abbrev dktX0_account_6 : List UInt8 := dkwX0_account_6 ++ []
def dkwX0_account_5 : List UInt8 := [182, 1, 207, 184, 1, 31, 167, 0, 32, 42, 3, 182, 1, 198, 167, 0, 24, 42, 180, 0, 21, 182, 0, 90]
abbrev dktX0_account_5 : List UInt8 := dkwX0_account_5 ++ dktX0_account_6
def dkwX0_account_4 : List UInt8 := [180, 0, 246, 182, 0, 72, 167, 0, 56, 42, 182, 1, 63, 167, 0, 49, 42, 182, 1, 204, 167, 0, 42, 42]
abbrev dktX0_account_4 : List UInt8 := dkwX0_account_4 ++ dktX0_account_5
def dkwX0_account_3 : List UInt8 := [180, 0, 38, 180, 0, 68, 182, 0, 72, 167, 0, 76, 42, 182, 1, 201, 167, 0, 69, 42, 180, 0, 38]
abbrev dktX0_account_3 : List UInt8 := dkwX0_account_3 ++ dktX0_account_4
def dkwX0_account_2 : List UInt8 := [42, 180, 0, 38, 180, 0, 95, 182, 0, 72, 167, 0, 97, 42, 4, 182, 1, 198, 167, 0, 89, 42]
abbrev dktX0_account_2 : List UInt8 := dkwX0_account_2 ++ dktX0_account_3
def dkwX0_account_1 : List UInt8 := [170, 0, 0, 0, 0, 0, 165, 0, 0, 0, 0, 0, 0, 0, 10, 0, 0, 0, 59, 0, 0, 0, 72, 0, 0, 0, 80, 0, 0, 0, 93, 0, 0, 0, 100, 0, 0, 0, 113, 0, 0, 0, 120, 0, 0, 0, 127, 0, 0, 0, 137, 0, 0, 0, 145, 0, 0, 0, 155]
abbrev dktX0_account_1 : List UInt8 := dkwX0_account_1 ++ dktX0_account_2
def dkwX0_account_0 : List UInt8 := [27]
abbrev dktX0_account_0 : List UInt8 := dkwX0_account_0 ++ dktX0_account_1
theorem dksX0_account_0 : cX0_account.data.toList.drop 0 = dktX0_account_0 := by decide +kernel
theorem dksX0_account_1 : cX0_account.data.toList.drop 1 = dktX0_account_1 := dk_seg dksX0_account_0 1 rfl rfl
theorem dksX0_account_2 : cX0_account.data.toList.drop 60 = dktX0_account_2 := dk_seg dksX0_account_1 59 rfl rfl
theorem dksX0_account_3 : cX0_account.data.toList.drop 82 = dktX0_account_3 := dk_seg dksX0_account_2 22 rfl rfl
theorem dksX0_account_4 : cX0_account.data.toList.drop 105 = dktX0_account_4 := dk_seg dksX0_account_3 23 rfl rfl
theorem dksX0_account_5 : cX0_account.data.toList.drop 129 = dktX0_account_5 := dk_seg dksX0_account_4 24 rfl rfl
theorem dksX0_account_6 : cX0_account.data.toList.drop 153 = dktX0_account_6 := dk_seg dksX0_account_5 24 rfl rfl
theorem dX0_account_0 : decode cX0_account 0 = .ok (.iload_n 1, 1) := dk_27 (dk_at dksX0_account_0 0 rfl rfl)
theorem dX0_account_1 : decode cX0_account 1 = .ok (.tableswitch 165 0 10 #[59, 72, 80, 93, 100, 113, 120, 127, 137, 145, 155], 59) := by decide +kernel
theorem dX0_account_60 : decode cX0_account 60 = .ok (.aload_n 0, 1) := dk_42 (dk_at dksX0_account_2 0 rfl rfl)
theorem dX0_account_61 : decode cX0_account 61 = .ok (.getfield 38, 3) := dk_180 0 38 (dk_at dksX0_account_2 1 rfl rfl)
theorem dX0_account_64 : decode cX0_account 64 = .ok (.getfield 95, 3) := dk_180 0 95 (dk_at dksX0_account_2 4 rfl rfl)
theorem dX0_account_67 : decode cX0_account 67 = .ok (.invokevirtual 72, 3) := dk_182 0 72 (dk_at dksX0_account_2 7 rfl rfl)
theorem dX0_account_70 : decode cX0_account 70 = .ok (.goto 97, 3) := dk_167 0 97 (dk_at dksX0_account_2 10 rfl rfl)
theorem dX0_account_73 : decode cX0_account 73 = .ok (.aload_n 0, 1) := dk_42 (dk_at dksX0_account_2 13 rfl rfl)
theorem dX0_account_74 : decode cX0_account 74 = .ok (.iconst 1, 1) := dk_4 (dk_at dksX0_account_2 14 rfl rfl)
theorem dX0_account_75 : decode cX0_account 75 = .ok (.invokevirtual 454, 3) := dk_182 1 198 (dk_at dksX0_account_2 15 rfl rfl)
theorem dX0_account_78 : decode cX0_account 78 = .ok (.goto 89, 3) := dk_167 0 89 (dk_at dksX0_account_2 18 rfl rfl)
theorem dX0_account_81 : decode cX0_account 81 = .ok (.aload_n 0, 1) := dk_42 (dk_at dksX0_account_2 21 rfl rfl)
theorem dX0_account_82 : decode cX0_account 82 = .ok (.getfield 38, 3) := dk_180 0 38 (dk_at dksX0_account_3 0 rfl rfl)
theorem dX0_account_85 : decode cX0_account 85 = .ok (.getfield 68, 3) := dk_180 0 68 (dk_at dksX0_account_3 3 rfl rfl)
theorem dX0_account_88 : decode cX0_account 88 = .ok (.invokevirtual 72, 3) := dk_182 0 72 (dk_at dksX0_account_3 6 rfl rfl)
theorem dX0_account_91 : decode cX0_account 91 = .ok (.goto 76, 3) := dk_167 0 76 (dk_at dksX0_account_3 9 rfl rfl)
theorem dX0_account_94 : decode cX0_account 94 = .ok (.aload_n 0, 1) := dk_42 (dk_at dksX0_account_3 12 rfl rfl)
theorem dX0_account_95 : decode cX0_account 95 = .ok (.invokevirtual 457, 3) := dk_182 1 201 (dk_at dksX0_account_3 13 rfl rfl)
theorem dX0_account_98 : decode cX0_account 98 = .ok (.goto 69, 3) := dk_167 0 69 (dk_at dksX0_account_3 16 rfl rfl)
theorem dX0_account_101 : decode cX0_account 101 = .ok (.aload_n 0, 1) := dk_42 (dk_at dksX0_account_3 19 rfl rfl)
theorem dX0_account_102 : decode cX0_account 102 = .ok (.getfield 38, 3) := dk_180 0 38 (dk_at dksX0_account_3 20 rfl rfl)
theorem dX0_account_105 : decode cX0_account 105 = .ok (.getfield 246, 3) := dk_180 0 246 (dk_at dksX0_account_4 0 rfl rfl)
theorem dX0_account_108 : decode cX0_account 108 = .ok (.invokevirtual 72, 3) := dk_182 0 72 (dk_at dksX0_account_4 3 rfl rfl)
theorem dX0_account_111 : decode cX0_account 111 = .ok (.goto 56, 3) := dk_167 0 56 (dk_at dksX0_account_4 6 rfl rfl)
theorem dX0_account_114 : decode cX0_account 114 = .ok (.aload_n 0, 1) := dk_42 (dk_at dksX0_account_4 9 rfl rfl)
theorem dX0_account_115 : decode cX0_account 115 = .ok (.invokevirtual 319, 3) := dk_182 1 63 (dk_at dksX0_account_4 10 rfl rfl)
theorem dX0_account_118 : decode cX0_account 118 = .ok (.goto 49, 3) := dk_167 0 49 (dk_at dksX0_account_4 13 rfl rfl)
theorem dX0_account_121 : decode cX0_account 121 = .ok (.aload_n 0, 1) := dk_42 (dk_at dksX0_account_4 16 rfl rfl)
theorem dX0_account_122 : decode cX0_account 122 = .ok (.invokevirtual 460, 3) := dk_182 1 204 (dk_at dksX0_account_4 17 rfl rfl)
theorem dX0_account_125 : decode cX0_account 125 = .ok (.goto 42, 3) := dk_167 0 42 (dk_at dksX0_account_4 20 rfl rfl)
theorem dX0_account_128 : decode cX0_account 128 = .ok (.aload_n 0, 1) := dk_42 (dk_at dksX0_account_4 23 rfl rfl)
theorem dX0_account_129 : decode cX0_account 129 = .ok (.invokevirtual 463, 3) := dk_182 1 207 (dk_at dksX0_account_5 0 rfl rfl)
theorem dX0_account_132 : decode cX0_account 132 = .ok (.invokestatic 287, 3) := dk_184 1 31 (dk_at dksX0_account_5 3 rfl rfl)
theorem dX0_account_135 : decode cX0_account 135 = .ok (.goto 32, 3) := dk_167 0 32 (dk_at dksX0_account_5 6 rfl rfl)
theorem dX0_account_138 : decode cX0_account 138 = .ok (.aload_n 0, 1) := dk_42 (dk_at dksX0_account_5 9 rfl rfl)
theorem dX0_account_139 : decode cX0_account 139 = .ok (.iconst 0, 1) := dk_3 (dk_at dksX0_account_5 10 rfl rfl)
theorem dX0_account_140 : decode cX0_account 140 = .ok (.invokevirtual 454, 3) := dk_182 1 198 (dk_at dksX0_account_5 11 rfl rfl)
theorem dX0_account_143 : decode cX0_account 143 = .ok (.goto 24, 3) := dk_167 0 24 (dk_at dksX0_account_5 14 rfl rfl)
theorem dX0_account_146 : decode cX0_account 146 = .ok (.aload_n 0, 1) := dk_42 (dk_at dksX0_account_5 17 rfl rfl)
theorem dX0_account_147 : decode cX0_account 147 = .ok (.getfield 21, 3) := dk_180 0 21 (dk_at dksX0_account_5 18 rfl rfl)
theorem dX0_account_150 : decode cX0_account 150 = .ok (.invokevirtual 90, 3) := dk_182 0 90 (dk_at dksX0_account_5 21 rfl rfl)
theorem dX0_account_153 : decode cX0_account 153 = .ok (.goto 14, 3) := dk_167 0 14 (dk_at dksX0_account_6 0 rfl rfl)
theorem dX0_account_156 : decode cX0_account 156 = .ok (.aload_n 0, 1) := dk_42 (dk_at dksX0_account_6 3 rfl rfl)
theorem dX0_account_157 : decode cX0_account 157 = .ok (.getfield 42, 3) := dk_180 0 42 (dk_at dksX0_account_6 4 rfl rfl)
theorem dX0_account_160 : decode cX0_account 160 = .ok (.invokevirtual 371, 3) := dk_182 1 115 (dk_at dksX0_account_6 7 rfl rfl)
theorem dX0_account_163 : decode cX0_account 163 = .ok (.goto 4, 3) := dk_167 0 4 (dk_at dksX0_account_6 10 rfl rfl)
theorem dX0_account_166 : decode cX0_account 166 = .ok (.iconst (-1), 1) := dk_2 (dk_at dksX0_account_6 13 rfl rfl)
theorem dX0_account_167 : decode cX0_account 167 = .ok (.ireturn, 1) := dk_172 (dk_at dksX0_account_6 14 rfl rfl)
abbrev cX0_inPacks : ByteArray := prog_1_method_69_code
def yX0_inPacks : MethodName := ⟨RX0, "inPacks", "(Z)I"⟩
def dkwX0_inPacks_2 : List UInt8 := [167, 0, 16, 25, 4, 180, 0, 155, 153, 0, 7, 4, 167, 0, 4, 3, 96, 61, 167, 255, 205, 28, 172]
abbrev dktX0_inPacks_2 : List UInt8 := dkwX0_inPacks_2 ++ []
def dkwX0_inPacks_1 : List UInt8 := [185, 0, 168, 1, 0, 192, 0, 110, 58, 4, 28, 27, 153, 0, 14, 25, 4, 180, 0, 112, 182, 0, 72]
abbrev dktX0_inPacks_1 : List UInt8 := dkwX0_inPacks_1 ++ dktX0_inPacks_2
def dkwX0_inPacks_0 : List UInt8 := [3, 61, 42, 180, 0, 38, 180, 0, 95, 182, 0, 159, 78, 45, 185, 0, 163, 1, 0, 153, 0, 48, 45]
abbrev dktX0_inPacks_0 : List UInt8 := dkwX0_inPacks_0 ++ dktX0_inPacks_1
theorem dksX0_inPacks_0 : cX0_inPacks.data.toList.drop 0 = dktX0_inPacks_0 := by decide +kernel
theorem dksX0_inPacks_1 : cX0_inPacks.data.toList.drop 23 = dktX0_inPacks_1 := dk_seg dksX0_inPacks_0 23 rfl rfl
theorem dksX0_inPacks_2 : cX0_inPacks.data.toList.drop 46 = dktX0_inPacks_2 := dk_seg dksX0_inPacks_1 23 rfl rfl
theorem dX0_inPacks_0 : decode cX0_inPacks 0 = .ok (.iconst 0, 1) := dk_3 (dk_at dksX0_inPacks_0 0 rfl rfl)
theorem dX0_inPacks_1 : decode cX0_inPacks 1 = .ok (.istore_n 2, 1) := dk_61 (dk_at dksX0_inPacks_0 1 rfl rfl)
theorem dX0_inPacks_2 : decode cX0_inPacks 2 = .ok (.aload_n 0, 1) := dk_42 (dk_at dksX0_inPacks_0 2 rfl rfl)
theorem dX0_inPacks_3 : decode cX0_inPacks 3 = .ok (.getfield 38, 3) := dk_180 0 38 (dk_at dksX0_inPacks_0 3 rfl rfl)
theorem dX0_inPacks_6 : decode cX0_inPacks 6 = .ok (.getfield 95, 3) := dk_180 0 95 (dk_at dksX0_inPacks_0 6 rfl rfl)
theorem dX0_inPacks_9 : decode cX0_inPacks 9 = .ok (.invokevirtual 159, 3) := dk_182 0 159 (dk_at dksX0_inPacks_0 9 rfl rfl)
theorem dX0_inPacks_12 : decode cX0_inPacks 12 = .ok (.astore_n 3, 1) := dk_78 (dk_at dksX0_inPacks_0 12 rfl rfl)
theorem dX0_inPacks_13 : decode cX0_inPacks 13 = .ok (.aload_n 3, 1) := dk_45 (dk_at dksX0_inPacks_0 13 rfl rfl)
theorem dX0_inPacks_14 : decode cX0_inPacks 14 = .ok (.invokeinterface 163 1, 5) := by decide +kernel
theorem dX0_inPacks_19 : decode cX0_inPacks 19 = .ok (.ifCond .eq 48, 3) := dk_153 0 48 (dk_at dksX0_inPacks_0 19 rfl rfl)
theorem dX0_inPacks_22 : decode cX0_inPacks 22 = .ok (.aload_n 3, 1) := dk_45 (dk_at dksX0_inPacks_0 22 rfl rfl)
theorem dX0_inPacks_23 : decode cX0_inPacks 23 = .ok (.invokeinterface 168 1, 5) := by decide +kernel
theorem dX0_inPacks_28 : decode cX0_inPacks 28 = .ok (.checkcast 110, 3) := dk_192 0 110 (dk_at dksX0_inPacks_1 5 rfl rfl)
theorem dX0_inPacks_31 : decode cX0_inPacks 31 = .ok (.astore 4, 2) := dk_58 4 (dk_at dksX0_inPacks_1 8 rfl rfl)
theorem dX0_inPacks_33 : decode cX0_inPacks 33 = .ok (.iload_n 2, 1) := dk_28 (dk_at dksX0_inPacks_1 10 rfl rfl)
theorem dX0_inPacks_34 : decode cX0_inPacks 34 = .ok (.iload_n 1, 1) := dk_27 (dk_at dksX0_inPacks_1 11 rfl rfl)
theorem dX0_inPacks_35 : decode cX0_inPacks 35 = .ok (.ifCond .eq 14, 3) := dk_153 0 14 (dk_at dksX0_inPacks_1 12 rfl rfl)
theorem dX0_inPacks_38 : decode cX0_inPacks 38 = .ok (.aload 4, 2) := dk_25 4 (dk_at dksX0_inPacks_1 15 rfl rfl)
theorem dX0_inPacks_40 : decode cX0_inPacks 40 = .ok (.getfield 112, 3) := dk_180 0 112 (dk_at dksX0_inPacks_1 17 rfl rfl)
theorem dX0_inPacks_43 : decode cX0_inPacks 43 = .ok (.invokevirtual 72, 3) := dk_182 0 72 (dk_at dksX0_inPacks_1 20 rfl rfl)
theorem dX0_inPacks_46 : decode cX0_inPacks 46 = .ok (.goto 16, 3) := dk_167 0 16 (dk_at dksX0_inPacks_2 0 rfl rfl)
theorem dX0_inPacks_49 : decode cX0_inPacks 49 = .ok (.aload 4, 2) := dk_25 4 (dk_at dksX0_inPacks_2 3 rfl rfl)
theorem dX0_inPacks_51 : decode cX0_inPacks 51 = .ok (.getfield 155, 3) := dk_180 0 155 (dk_at dksX0_inPacks_2 5 rfl rfl)
theorem dX0_inPacks_54 : decode cX0_inPacks 54 = .ok (.ifCond .eq 7, 3) := dk_153 0 7 (dk_at dksX0_inPacks_2 8 rfl rfl)
theorem dX0_inPacks_57 : decode cX0_inPacks 57 = .ok (.iconst 1, 1) := dk_4 (dk_at dksX0_inPacks_2 11 rfl rfl)
theorem dX0_inPacks_58 : decode cX0_inPacks 58 = .ok (.goto 4, 3) := dk_167 0 4 (dk_at dksX0_inPacks_2 12 rfl rfl)
theorem dX0_inPacks_61 : decode cX0_inPacks 61 = .ok (.iconst 0, 1) := dk_3 (dk_at dksX0_inPacks_2 15 rfl rfl)
theorem dX0_inPacks_62 : decode cX0_inPacks 62 = .ok (.iadd, 1) := dk_96 (dk_at dksX0_inPacks_2 16 rfl rfl)
theorem dX0_inPacks_63 : decode cX0_inPacks 63 = .ok (.istore_n 2, 1) := dk_61 (dk_at dksX0_inPacks_2 17 rfl rfl)
theorem dX0_inPacks_64 : decode cX0_inPacks 64 = .ok (.goto (-51), 3) := dk_167 255 205 (dk_at dksX0_inPacks_2 18 rfl rfl)
theorem dX0_inPacks_67 : decode cX0_inPacks 67 = .ok (.iload_n 2, 1) := dk_28 (dk_at dksX0_inPacks_2 21 rfl rfl)
theorem dX0_inPacks_68 : decode cX0_inPacks 68 = .ok (.ireturn, 1) := dk_172 (dk_at dksX0_inPacks_2 22 rfl rfl)
abbrev cX0_learnedRules : ByteArray := prog_1_method_70_code
def yX0_learnedRules : MethodName := ⟨RX0, "learnedRules", "()I"⟩
def dkwX0_learnedRules_2 : List UInt8 := [60, 167, 255, 221, 27, 172]
abbrev dktX0_learnedRules_2 : List UInt8 := dkwX0_learnedRules_2 ++ []
def dkwX0_learnedRules_1 : List UInt8 := [185, 0, 168, 1, 0, 192, 0, 171, 78, 27, 45, 182, 1, 106, 6, 160, 0, 7, 4, 167, 0, 4, 3, 96]
abbrev dktX0_learnedRules_1 : List UInt8 := dkwX0_learnedRules_1 ++ dktX0_learnedRules_2
def dkwX0_learnedRules_0 : List UInt8 := [3, 60, 42, 180, 0, 38, 180, 0, 68, 182, 0, 159, 77, 44, 185, 0, 163, 1, 0, 153, 0, 32, 44]
abbrev dktX0_learnedRules_0 : List UInt8 := dkwX0_learnedRules_0 ++ dktX0_learnedRules_1
theorem dksX0_learnedRules_0 : cX0_learnedRules.data.toList.drop 0 = dktX0_learnedRules_0 := by decide +kernel
theorem dksX0_learnedRules_1 : cX0_learnedRules.data.toList.drop 23 = dktX0_learnedRules_1 := dk_seg dksX0_learnedRules_0 23 rfl rfl
theorem dksX0_learnedRules_2 : cX0_learnedRules.data.toList.drop 47 = dktX0_learnedRules_2 := dk_seg dksX0_learnedRules_1 24 rfl rfl
theorem dX0_learnedRules_0 : decode cX0_learnedRules 0 = .ok (.iconst 0, 1) := dk_3 (dk_at dksX0_learnedRules_0 0 rfl rfl)
theorem dX0_learnedRules_1 : decode cX0_learnedRules 1 = .ok (.istore_n 1, 1) := dk_60 (dk_at dksX0_learnedRules_0 1 rfl rfl)
theorem dX0_learnedRules_2 : decode cX0_learnedRules 2 = .ok (.aload_n 0, 1) := dk_42 (dk_at dksX0_learnedRules_0 2 rfl rfl)
theorem dX0_learnedRules_3 : decode cX0_learnedRules 3 = .ok (.getfield 38, 3) := dk_180 0 38 (dk_at dksX0_learnedRules_0 3 rfl rfl)
theorem dX0_learnedRules_6 : decode cX0_learnedRules 6 = .ok (.getfield 68, 3) := dk_180 0 68 (dk_at dksX0_learnedRules_0 6 rfl rfl)
theorem dX0_learnedRules_9 : decode cX0_learnedRules 9 = .ok (.invokevirtual 159, 3) := dk_182 0 159 (dk_at dksX0_learnedRules_0 9 rfl rfl)
theorem dX0_learnedRules_12 : decode cX0_learnedRules 12 = .ok (.astore_n 2, 1) := dk_77 (dk_at dksX0_learnedRules_0 12 rfl rfl)
theorem dX0_learnedRules_13 : decode cX0_learnedRules 13 = .ok (.aload_n 2, 1) := dk_44 (dk_at dksX0_learnedRules_0 13 rfl rfl)
theorem dX0_learnedRules_14 : decode cX0_learnedRules 14 = .ok (.invokeinterface 163 1, 5) := by decide +kernel
theorem dX0_learnedRules_19 : decode cX0_learnedRules 19 = .ok (.ifCond .eq 32, 3) := dk_153 0 32 (dk_at dksX0_learnedRules_0 19 rfl rfl)
theorem dX0_learnedRules_22 : decode cX0_learnedRules 22 = .ok (.aload_n 2, 1) := dk_44 (dk_at dksX0_learnedRules_0 22 rfl rfl)
theorem dX0_learnedRules_23 : decode cX0_learnedRules 23 = .ok (.invokeinterface 168 1, 5) := by decide +kernel
theorem dX0_learnedRules_28 : decode cX0_learnedRules 28 = .ok (.checkcast 171, 3) := dk_192 0 171 (dk_at dksX0_learnedRules_1 5 rfl rfl)
theorem dX0_learnedRules_31 : decode cX0_learnedRules 31 = .ok (.astore_n 3, 1) := dk_78 (dk_at dksX0_learnedRules_1 8 rfl rfl)
theorem dX0_learnedRules_32 : decode cX0_learnedRules 32 = .ok (.iload_n 1, 1) := dk_27 (dk_at dksX0_learnedRules_1 9 rfl rfl)
theorem dX0_learnedRules_33 : decode cX0_learnedRules 33 = .ok (.aload_n 3, 1) := dk_45 (dk_at dksX0_learnedRules_1 10 rfl rfl)
theorem dX0_learnedRules_34 : decode cX0_learnedRules 34 = .ok (.invokevirtual 362, 3) := dk_182 1 106 (dk_at dksX0_learnedRules_1 11 rfl rfl)
theorem dX0_learnedRules_37 : decode cX0_learnedRules 37 = .ok (.iconst 3, 1) := dk_6 (dk_at dksX0_learnedRules_1 14 rfl rfl)
theorem dX0_learnedRules_38 : decode cX0_learnedRules 38 = .ok (.if_icmp .ne 7, 3) := dk_160 0 7 (dk_at dksX0_learnedRules_1 15 rfl rfl)
theorem dX0_learnedRules_41 : decode cX0_learnedRules 41 = .ok (.iconst 1, 1) := dk_4 (dk_at dksX0_learnedRules_1 18 rfl rfl)
theorem dX0_learnedRules_42 : decode cX0_learnedRules 42 = .ok (.goto 4, 3) := dk_167 0 4 (dk_at dksX0_learnedRules_1 19 rfl rfl)
theorem dX0_learnedRules_45 : decode cX0_learnedRules 45 = .ok (.iconst 0, 1) := dk_3 (dk_at dksX0_learnedRules_1 22 rfl rfl)
theorem dX0_learnedRules_46 : decode cX0_learnedRules 46 = .ok (.iadd, 1) := dk_96 (dk_at dksX0_learnedRules_1 23 rfl rfl)
theorem dX0_learnedRules_47 : decode cX0_learnedRules 47 = .ok (.istore_n 1, 1) := dk_60 (dk_at dksX0_learnedRules_2 0 rfl rfl)
theorem dX0_learnedRules_48 : decode cX0_learnedRules 48 = .ok (.goto (-35), 3) := dk_167 255 221 (dk_at dksX0_learnedRules_2 1 rfl rfl)
theorem dX0_learnedRules_51 : decode cX0_learnedRules 51 = .ok (.iload_n 1, 1) := dk_27 (dk_at dksX0_learnedRules_2 4 rfl rfl)
theorem dX0_learnedRules_52 : decode cX0_learnedRules 52 = .ok (.ireturn, 1) := dk_172 (dk_at dksX0_learnedRules_2 5 rfl rfl)
abbrev cX0_allLeft : ByteArray := prog_1_method_68_code
def yX0_allLeft : MethodName := ⟨RX0, "allLeft", "()I"⟩
def dkwX0_allLeft_2 : List UInt8 := [172]
abbrev dktX0_allLeft_2 : List UInt8 := dkwX0_allLeft_2 ++ []
def dkwX0_allLeft_1 : List UInt8 := [162, 0, 23, 45, 21, 5, 46, 54, 6, 27, 21, 6, 184, 1, 195, 96, 60, 132, 5, 1, 167, 255, 232, 27]
abbrev dktX0_allLeft_1 : List UInt8 := dkwX0_allLeft_1 ++ dktX0_allLeft_2
def dkwX0_allLeft_0 : List UInt8 := [3, 60, 42, 182, 1, 5, 77, 44, 180, 1, 9, 78, 45, 190, 54, 4, 3, 54, 5, 21, 5, 21, 4]
abbrev dktX0_allLeft_0 : List UInt8 := dkwX0_allLeft_0 ++ dktX0_allLeft_1
theorem dksX0_allLeft_0 : cX0_allLeft.data.toList.drop 0 = dktX0_allLeft_0 := by decide +kernel
theorem dksX0_allLeft_1 : cX0_allLeft.data.toList.drop 23 = dktX0_allLeft_1 := dk_seg dksX0_allLeft_0 23 rfl rfl
theorem dksX0_allLeft_2 : cX0_allLeft.data.toList.drop 47 = dktX0_allLeft_2 := dk_seg dksX0_allLeft_1 24 rfl rfl
theorem dX0_allLeft_0 : decode cX0_allLeft 0 = .ok (.iconst 0, 1) := dk_3 (dk_at dksX0_allLeft_0 0 rfl rfl)
theorem dX0_allLeft_1 : decode cX0_allLeft 1 = .ok (.istore_n 1, 1) := dk_60 (dk_at dksX0_allLeft_0 1 rfl rfl)
theorem dX0_allLeft_2 : decode cX0_allLeft 2 = .ok (.aload_n 0, 1) := dk_42 (dk_at dksX0_allLeft_0 2 rfl rfl)
theorem dX0_allLeft_3 : decode cX0_allLeft 3 = .ok (.invokevirtual 261, 3) := dk_182 1 5 (dk_at dksX0_allLeft_0 3 rfl rfl)
theorem dX0_allLeft_6 : decode cX0_allLeft 6 = .ok (.astore_n 2, 1) := dk_77 (dk_at dksX0_allLeft_0 6 rfl rfl)
theorem dX0_allLeft_7 : decode cX0_allLeft 7 = .ok (.aload_n 2, 1) := dk_44 (dk_at dksX0_allLeft_0 7 rfl rfl)
theorem dX0_allLeft_8 : decode cX0_allLeft 8 = .ok (.getfield 265, 3) := dk_180 1 9 (dk_at dksX0_allLeft_0 8 rfl rfl)
theorem dX0_allLeft_11 : decode cX0_allLeft 11 = .ok (.astore_n 3, 1) := dk_78 (dk_at dksX0_allLeft_0 11 rfl rfl)
theorem dX0_allLeft_12 : decode cX0_allLeft 12 = .ok (.aload_n 3, 1) := dk_45 (dk_at dksX0_allLeft_0 12 rfl rfl)
theorem dX0_allLeft_13 : decode cX0_allLeft 13 = .ok (.arraylength, 1) := dk_190 (dk_at dksX0_allLeft_0 13 rfl rfl)
theorem dX0_allLeft_14 : decode cX0_allLeft 14 = .ok (.istore 4, 2) := dk_54 4 (dk_at dksX0_allLeft_0 14 rfl rfl)
theorem dX0_allLeft_16 : decode cX0_allLeft 16 = .ok (.iconst 0, 1) := dk_3 (dk_at dksX0_allLeft_0 16 rfl rfl)
theorem dX0_allLeft_17 : decode cX0_allLeft 17 = .ok (.istore 5, 2) := dk_54 5 (dk_at dksX0_allLeft_0 17 rfl rfl)
theorem dX0_allLeft_19 : decode cX0_allLeft 19 = .ok (.iload 5, 2) := dk_21 5 (dk_at dksX0_allLeft_0 19 rfl rfl)
theorem dX0_allLeft_21 : decode cX0_allLeft 21 = .ok (.iload 4, 2) := dk_21 4 (dk_at dksX0_allLeft_0 21 rfl rfl)
theorem dX0_allLeft_23 : decode cX0_allLeft 23 = .ok (.if_icmp .ge 23, 3) := dk_162 0 23 (dk_at dksX0_allLeft_1 0 rfl rfl)
theorem dX0_allLeft_26 : decode cX0_allLeft 26 = .ok (.aload_n 3, 1) := dk_45 (dk_at dksX0_allLeft_1 3 rfl rfl)
theorem dX0_allLeft_27 : decode cX0_allLeft 27 = .ok (.iload 5, 2) := dk_21 5 (dk_at dksX0_allLeft_1 4 rfl rfl)
theorem dX0_allLeft_29 : decode cX0_allLeft 29 = .ok (.iaload, 1) := dk_46 (dk_at dksX0_allLeft_1 6 rfl rfl)
theorem dX0_allLeft_30 : decode cX0_allLeft 30 = .ok (.istore 6, 2) := dk_54 6 (dk_at dksX0_allLeft_1 7 rfl rfl)
theorem dX0_allLeft_32 : decode cX0_allLeft 32 = .ok (.iload_n 1, 1) := dk_27 (dk_at dksX0_allLeft_1 9 rfl rfl)
theorem dX0_allLeft_33 : decode cX0_allLeft 33 = .ok (.iload 6, 2) := dk_21 6 (dk_at dksX0_allLeft_1 10 rfl rfl)
theorem dX0_allLeft_35 : decode cX0_allLeft 35 = .ok (.invokestatic 451, 3) := dk_184 1 195 (dk_at dksX0_allLeft_1 12 rfl rfl)
theorem dX0_allLeft_38 : decode cX0_allLeft 38 = .ok (.iadd, 1) := dk_96 (dk_at dksX0_allLeft_1 15 rfl rfl)
theorem dX0_allLeft_39 : decode cX0_allLeft 39 = .ok (.istore_n 1, 1) := dk_60 (dk_at dksX0_allLeft_1 16 rfl rfl)
theorem dX0_allLeft_40 : decode cX0_allLeft 40 = .ok (.iinc 5 1, 3) := dk_132 5 1 (dk_at dksX0_allLeft_1 17 rfl rfl)
theorem dX0_allLeft_43 : decode cX0_allLeft 43 = .ok (.goto (-24), 3) := dk_167 255 232 (dk_at dksX0_allLeft_1 20 rfl rfl)
theorem dX0_allLeft_46 : decode cX0_allLeft 46 = .ok (.iload_n 1, 1) := dk_27 (dk_at dksX0_allLeft_1 23 rfl rfl)
theorem dX0_allLeft_47 : decode cX0_allLeft 47 = .ok (.ireturn, 1) := dk_172 (dk_at dksX0_allLeft_2 0 rfl rfl)
abbrev cX0_meanStates : ByteArray := prog_1_method_72_code
def yX0_meanStates : MethodName := ⟨RX0, "meanStates", "()D"⟩
def dkwX0_meanStates_1 : List UInt8 := [180, 0, 38, 180, 0, 95, 182, 0, 72, 135, 111, 175]
abbrev dktX0_meanStates_1 : List UInt8 := dkwX0_meanStates_1 ++ []
def dkwX0_meanStates_0 : List UInt8 := [42, 180, 0, 38, 180, 0, 95, 182, 0, 231, 153, 0, 7, 14, 167, 0, 20, 42, 182, 1, 204, 135, 42]
abbrev dktX0_meanStates_0 : List UInt8 := dkwX0_meanStates_0 ++ dktX0_meanStates_1
theorem dksX0_meanStates_0 : cX0_meanStates.data.toList.drop 0 = dktX0_meanStates_0 := by decide +kernel
theorem dksX0_meanStates_1 : cX0_meanStates.data.toList.drop 23 = dktX0_meanStates_1 := dk_seg dksX0_meanStates_0 23 rfl rfl
theorem dX0_meanStates_0 : decode cX0_meanStates 0 = .ok (.aload_n 0, 1) := dk_42 (dk_at dksX0_meanStates_0 0 rfl rfl)
theorem dX0_meanStates_1 : decode cX0_meanStates 1 = .ok (.getfield 38, 3) := dk_180 0 38 (dk_at dksX0_meanStates_0 1 rfl rfl)
theorem dX0_meanStates_4 : decode cX0_meanStates 4 = .ok (.getfield 95, 3) := dk_180 0 95 (dk_at dksX0_meanStates_0 4 rfl rfl)
theorem dX0_meanStates_7 : decode cX0_meanStates 7 = .ok (.invokevirtual 231, 3) := dk_182 0 231 (dk_at dksX0_meanStates_0 7 rfl rfl)
theorem dX0_meanStates_10 : decode cX0_meanStates 10 = .ok (.ifCond .eq 7, 3) := dk_153 0 7 (dk_at dksX0_meanStates_0 10 rfl rfl)
theorem dX0_meanStates_13 : decode cX0_meanStates 13 = .ok (.dconst 0, 1) := dk_14 (dk_at dksX0_meanStates_0 13 rfl rfl)
theorem dX0_meanStates_14 : decode cX0_meanStates 14 = .ok (.goto 20, 3) := dk_167 0 20 (dk_at dksX0_meanStates_0 14 rfl rfl)
theorem dX0_meanStates_17 : decode cX0_meanStates 17 = .ok (.aload_n 0, 1) := dk_42 (dk_at dksX0_meanStates_0 17 rfl rfl)
theorem dX0_meanStates_18 : decode cX0_meanStates 18 = .ok (.invokevirtual 460, 3) := dk_182 1 204 (dk_at dksX0_meanStates_0 18 rfl rfl)
theorem dX0_meanStates_21 : decode cX0_meanStates 21 = .ok (.i2d, 1) := dk_135 (dk_at dksX0_meanStates_0 21 rfl rfl)
theorem dX0_meanStates_22 : decode cX0_meanStates 22 = .ok (.aload_n 0, 1) := dk_42 (dk_at dksX0_meanStates_0 22 rfl rfl)
theorem dX0_meanStates_23 : decode cX0_meanStates 23 = .ok (.getfield 38, 3) := dk_180 0 38 (dk_at dksX0_meanStates_1 0 rfl rfl)
theorem dX0_meanStates_26 : decode cX0_meanStates 26 = .ok (.getfield 95, 3) := dk_180 0 95 (dk_at dksX0_meanStates_1 3 rfl rfl)
theorem dX0_meanStates_29 : decode cX0_meanStates 29 = .ok (.invokevirtual 72, 3) := dk_182 0 72 (dk_at dksX0_meanStates_1 6 rfl rfl)
theorem dX0_meanStates_32 : decode cX0_meanStates 32 = .ok (.i2d, 1) := dk_135 (dk_at dksX0_meanStates_1 9 rfl rfl)
theorem dX0_meanStates_33 : decode cX0_meanStates 33 = .ok (.ddiv, 1) := dk_111 (dk_at dksX0_meanStates_1 10 rfl rfl)
theorem dX0_meanStates_34 : decode cX0_meanStates 34 = .ok (.dreturn, 1) := dk_175 (dk_at dksX0_meanStates_1 11 rfl rfl)
abbrev cX0_undo : ByteArray := prog_1_method_73_code
def yX0_undo : MethodName := ⟨RX0, "undo", "()I"⟩
def dkwX0_undo_1 : List UInt8 := [181, 0, 38, 42, 180, 0, 21, 182, 0, 90, 172]
abbrev dktX0_undo_1 : List UInt8 := dkwX0_undo_1 ++ []
def dkwX0_undo_0 : List UInt8 := [42, 180, 0, 21, 182, 1, 208, 153, 0, 6, 16, 253, 172, 42, 42, 180, 0, 21, 182, 1, 209, 192, 0, 1]
abbrev dktX0_undo_0 : List UInt8 := dkwX0_undo_0 ++ dktX0_undo_1
theorem dksX0_undo_0 : cX0_undo.data.toList.drop 0 = dktX0_undo_0 := by decide +kernel
theorem dksX0_undo_1 : cX0_undo.data.toList.drop 24 = dktX0_undo_1 := dk_seg dksX0_undo_0 24 rfl rfl
theorem dX0_undo_0 : decode cX0_undo 0 = .ok (.aload_n 0, 1) := dk_42 (dk_at dksX0_undo_0 0 rfl rfl)
theorem dX0_undo_1 : decode cX0_undo 1 = .ok (.getfield 21, 3) := dk_180 0 21 (dk_at dksX0_undo_0 1 rfl rfl)
theorem dX0_undo_4 : decode cX0_undo 4 = .ok (.invokevirtual 464, 3) := dk_182 1 208 (dk_at dksX0_undo_0 4 rfl rfl)
theorem dX0_undo_7 : decode cX0_undo 7 = .ok (.ifCond .eq 6, 3) := dk_153 0 6 (dk_at dksX0_undo_0 7 rfl rfl)
theorem dX0_undo_10 : decode cX0_undo 10 = .ok (.bipush (-3), 2) := dk_16 253 (dk_at dksX0_undo_0 10 rfl rfl)
theorem dX0_undo_12 : decode cX0_undo 12 = .ok (.ireturn, 1) := dk_172 (dk_at dksX0_undo_0 12 rfl rfl)
theorem dX0_undo_13 : decode cX0_undo 13 = .ok (.aload_n 0, 1) := dk_42 (dk_at dksX0_undo_0 13 rfl rfl)
theorem dX0_undo_14 : decode cX0_undo 14 = .ok (.aload_n 0, 1) := dk_42 (dk_at dksX0_undo_0 14 rfl rfl)
theorem dX0_undo_15 : decode cX0_undo 15 = .ok (.getfield 21, 3) := dk_180 0 21 (dk_at dksX0_undo_0 15 rfl rfl)
theorem dX0_undo_18 : decode cX0_undo 18 = .ok (.invokevirtual 465, 3) := dk_182 1 209 (dk_at dksX0_undo_0 18 rfl rfl)
theorem dX0_undo_21 : decode cX0_undo 21 = .ok (.checkcast 1, 3) := dk_192 0 1 (dk_at dksX0_undo_0 21 rfl rfl)
theorem dX0_undo_24 : decode cX0_undo 24 = .ok (.putfield 38, 3) := dk_181 0 38 (dk_at dksX0_undo_1 0 rfl rfl)
theorem dX0_undo_27 : decode cX0_undo 27 = .ok (.aload_n 0, 1) := dk_42 (dk_at dksX0_undo_1 3 rfl rfl)
theorem dX0_undo_28 : decode cX0_undo 28 = .ok (.getfield 21, 3) := dk_180 0 21 (dk_at dksX0_undo_1 4 rfl rfl)
theorem dX0_undo_31 : decode cX0_undo 31 = .ok (.invokevirtual 90, 3) := dk_182 0 90 (dk_at dksX0_undo_1 7 rfl rfl)
theorem dX0_undo_34 : decode cX0_undo 34 = .ok (.ireturn, 1) := dk_172 (dk_at dksX0_undo_1 10 rfl rfl)
abbrev cX0_save : ByteArray := prog_1_method_74_code
def yX0_save : MethodName := ⟨RX0, "save", "()I"⟩
def dkwX0_save_0 : List UInt8 := [42, 42, 180, 0, 38, 182, 0, 115, 181, 1, 212, 42, 180, 1, 212, 180, 0, 68, 182, 0, 72, 172]
abbrev dktX0_save_0 : List UInt8 := dkwX0_save_0 ++ []
theorem dksX0_save_0 : cX0_save.data.toList.drop 0 = dktX0_save_0 := by decide +kernel
theorem dX0_save_0 : decode cX0_save 0 = .ok (.aload_n 0, 1) := dk_42 (dk_at dksX0_save_0 0 rfl rfl)
theorem dX0_save_1 : decode cX0_save 1 = .ok (.aload_n 0, 1) := dk_42 (dk_at dksX0_save_0 1 rfl rfl)
theorem dX0_save_2 : decode cX0_save 2 = .ok (.getfield 38, 3) := dk_180 0 38 (dk_at dksX0_save_0 2 rfl rfl)
theorem dX0_save_5 : decode cX0_save 5 = .ok (.invokevirtual 115, 3) := dk_182 0 115 (dk_at dksX0_save_0 5 rfl rfl)
theorem dX0_save_8 : decode cX0_save 8 = .ok (.putfield 468, 3) := dk_181 1 212 (dk_at dksX0_save_0 8 rfl rfl)
theorem dX0_save_11 : decode cX0_save 11 = .ok (.aload_n 0, 1) := dk_42 (dk_at dksX0_save_0 11 rfl rfl)
theorem dX0_save_12 : decode cX0_save 12 = .ok (.getfield 468, 3) := dk_180 1 212 (dk_at dksX0_save_0 12 rfl rfl)
theorem dX0_save_15 : decode cX0_save 15 = .ok (.getfield 68, 3) := dk_180 0 68 (dk_at dksX0_save_0 15 rfl rfl)
theorem dX0_save_18 : decode cX0_save 18 = .ok (.invokevirtual 72, 3) := dk_182 0 72 (dk_at dksX0_save_0 18 rfl rfl)
theorem dX0_save_21 : decode cX0_save 21 = .ok (.ireturn, 1) := dk_172 (dk_at dksX0_save_0 21 rfl rfl)
abbrev cX0_restore : ByteArray := prog_1_method_75_code
def yX0_restore : MethodName := ⟨RX0, "restore", "()I"⟩
def dkwX0_restore_1 : List UInt8 := [180, 0, 21, 182, 1, 215, 42, 180, 0, 38, 180, 0, 68, 182, 0, 72, 172]
abbrev dktX0_restore_1 : List UInt8 := dkwX0_restore_1 ++ []
def dkwX0_restore_0 : List UInt8 := [42, 180, 1, 212, 199, 0, 6, 16, 253, 172, 42, 42, 180, 1, 212, 182, 0, 115, 181, 0, 38, 42]
abbrev dktX0_restore_0 : List UInt8 := dkwX0_restore_0 ++ dktX0_restore_1
theorem dksX0_restore_0 : cX0_restore.data.toList.drop 0 = dktX0_restore_0 := by decide +kernel
theorem dksX0_restore_1 : cX0_restore.data.toList.drop 22 = dktX0_restore_1 := dk_seg dksX0_restore_0 22 rfl rfl
theorem dX0_restore_0 : decode cX0_restore 0 = .ok (.aload_n 0, 1) := dk_42 (dk_at dksX0_restore_0 0 rfl rfl)
theorem dX0_restore_1 : decode cX0_restore 1 = .ok (.getfield 468, 3) := dk_180 1 212 (dk_at dksX0_restore_0 1 rfl rfl)
theorem dX0_restore_4 : decode cX0_restore 4 = .ok (.ifnonnull 6, 3) := dk_199 0 6 (dk_at dksX0_restore_0 4 rfl rfl)
theorem dX0_restore_7 : decode cX0_restore 7 = .ok (.bipush (-3), 2) := dk_16 253 (dk_at dksX0_restore_0 7 rfl rfl)
theorem dX0_restore_9 : decode cX0_restore 9 = .ok (.ireturn, 1) := dk_172 (dk_at dksX0_restore_0 9 rfl rfl)
theorem dX0_restore_10 : decode cX0_restore 10 = .ok (.aload_n 0, 1) := dk_42 (dk_at dksX0_restore_0 10 rfl rfl)
theorem dX0_restore_11 : decode cX0_restore 11 = .ok (.aload_n 0, 1) := dk_42 (dk_at dksX0_restore_0 11 rfl rfl)
theorem dX0_restore_12 : decode cX0_restore 12 = .ok (.getfield 468, 3) := dk_180 1 212 (dk_at dksX0_restore_0 12 rfl rfl)
theorem dX0_restore_15 : decode cX0_restore 15 = .ok (.invokevirtual 115, 3) := dk_182 0 115 (dk_at dksX0_restore_0 15 rfl rfl)
theorem dX0_restore_18 : decode cX0_restore 18 = .ok (.putfield 38, 3) := dk_181 0 38 (dk_at dksX0_restore_0 18 rfl rfl)
theorem dX0_restore_21 : decode cX0_restore 21 = .ok (.aload_n 0, 1) := dk_42 (dk_at dksX0_restore_0 21 rfl rfl)
theorem dX0_restore_22 : decode cX0_restore 22 = .ok (.getfield 21, 3) := dk_180 0 21 (dk_at dksX0_restore_1 0 rfl rfl)
theorem dX0_restore_25 : decode cX0_restore 25 = .ok (.invokevirtual 471, 3) := dk_182 1 215 (dk_at dksX0_restore_1 3 rfl rfl)
theorem dX0_restore_28 : decode cX0_restore 28 = .ok (.aload_n 0, 1) := dk_42 (dk_at dksX0_restore_1 6 rfl rfl)
theorem dX0_restore_29 : decode cX0_restore 29 = .ok (.getfield 38, 3) := dk_180 0 38 (dk_at dksX0_restore_1 7 rfl rfl)
theorem dX0_restore_32 : decode cX0_restore 32 = .ok (.getfield 68, 3) := dk_180 0 68 (dk_at dksX0_restore_1 10 rfl rfl)
theorem dX0_restore_35 : decode cX0_restore 35 = .ok (.invokevirtual 72, 3) := dk_182 0 72 (dk_at dksX0_restore_1 13 rfl rfl)
theorem dX0_restore_38 : decode cX0_restore 38 = .ok (.ireturn, 1) := dk_172 (dk_at dksX0_restore_1 16 rfl rfl)
theorem q90 : (Jvm.Cond.initialized "VersionSolver") ∈ lw_all := lw_g (lw_at lw_m1 1 rfl) rfl
theorem q136 : (Jvm.Cond.instantiable "VersionSolver" (7 : Nat)) ∈ lw_all := lw_g (lw_at lw_m1 47 rfl) rfl
theorem q138 : (Jvm.Cond.instanceMethod ({ cls := "VersionSolver", name := "<init>", desc := "()V" } : Jvm.MethodName)) ∈ lw_all := lw_g (lw_at lw_m1 49 rfl) rfl
theorem q139 : (Jvm.Cond.code ({ cls := "VersionSolver", name := "<init>", desc := "()V" } : Jvm.MethodName) prog_1_method_1_code (1 : Nat) (Option.none : Option Jvm.ClassFile.FieldType)) ∈ lw_all := lw_g (lw_at lw_m1 50 rfl) rfl
theorem q140 : (Jvm.Cond.classLink "VersionSolver" (1 : Nat) "VersionSolver$Board") ∈ lw_all := lw_g (lw_at lw_m1 51 rfl) rfl
theorem q142 : (Jvm.Cond.methodLinkNest "VersionSolver" (3 : Nat) ({ cls := "VersionSolver$Board", name := "<init>", desc := "()V" } : Jvm.MethodName) "VersionSolver") ∈ lw_tbl := lw_at lw_m1 53 rfl
theorem q183 : (Jvm.Cond.fieldLinkNest "VersionSolver" (95 : Nat) "VersionSolver$Board" "packs" "Ljava/util/ArrayList;" "VersionSolver") ∈ lw_tbl := lw_at lw_m1 94 rfl
theorem q188 : (Jvm.Cond.fieldLinkNest "VersionSolver" (68 : Nat) "VersionSolver$Board" "rules" "Ljava/util/ArrayList;" "VersionSolver") ∈ lw_tbl := lw_at lw_m1 99 rfl
theorem q193 : (Jvm.Cond.fieldLinkNest "VersionSolver" (246 : Nat) "VersionSolver$Board" "assumptions" "Ljava/util/ArrayList;" "VersionSolver") ∈ lw_tbl := lw_at lw_m1 104 rfl
theorem q201 : (Jvm.Cond.classLink "VersionSolver" (7 : Nat) "java/lang/StringBuilder") ∈ lw_all := lw_g (lw_at lw_m1 112 rfl) rfl
theorem q203 : (Jvm.Cond.methodLink "VersionSolver" (9 : Nat) ({ cls := "java/lang/StringBuilder", name := "<init>", desc := "()V" } : Jvm.MethodName)) ∈ lw_all := lw_g (lw_at lw_m1 114 rfl) rfl
theorem q234 : (Jvm.Cond.methodLink "VersionSolver" (10 : Nat) ({ cls := "VersionSolver", name := "<init>", desc := "(LVersionSolver$Board;Ljava/lang/StringBuilder;)V" } : Jvm.MethodName)) ∈ lw_all := lw_g (lw_at lw_m1 145 rfl) rfl
theorem q235 : (Jvm.Cond.instanceMethod ({ cls := "VersionSolver", name := "<init>", desc := "(LVersionSolver$Board;Ljava/lang/StringBuilder;)V" } : Jvm.MethodName)) ∈ lw_all := lw_g (lw_at lw_m1 146 rfl) rfl
theorem q236 : (Jvm.Cond.code ({ cls := "VersionSolver", name := "<init>", desc := "(LVersionSolver$Board;Ljava/lang/StringBuilder;)V" } : Jvm.MethodName) prog_1_method_2_code (3 : Nat) (Option.none : Option Jvm.ClassFile.FieldType)) ∈ lw_all := lw_g (lw_at lw_m1 147 rfl) rfl
theorem q237 : (Jvm.Cond.methodLink "VersionSolver" (15 : Nat) ({ cls := "java/lang/Object", name := "<init>", desc := "()V" } : Jvm.MethodName)) ∈ lw_all := lw_g (lw_at lw_m1 148 rfl) rfl
theorem q238 : (Jvm.Cond.classLink "VersionSolver" (18 : Nat) "java/util/ArrayDeque") ∈ lw_all := lw_g (lw_at lw_m1 149 rfl) rfl
theorem q240 : (Jvm.Cond.methodLink "VersionSolver" (20 : Nat) ({ cls := "java/util/ArrayDeque", name := "<init>", desc := "()V" } : Jvm.MethodName)) ∈ lw_all := lw_g (lw_at lw_m1 151 rfl) rfl
theorem q255 : (Jvm.Cond.stringRef "VersionSolver" (25 : Nat) "") ∈ lw_tbl := lw_at lw_m1 166 rfl
theorem q257 : (Jvm.Cond.fieldLink "VersionSolver" (38 : Nat) "VersionSolver" "board" "LVersionSolver$Board;") ∈ lw_all := lw_g (lw_at lw_m1 168 rfl) rfl
theorem q258 : (Jvm.Cond.fieldLink "VersionSolver" (21 : Nat) "VersionSolver" "past" "Ljava/util/ArrayDeque;") ∈ lw_all := lw_g (lw_at lw_m1 169 rfl) rfl
theorem q259 : (Jvm.Cond.fieldLink "VersionSolver" (42 : Nat) "VersionSolver" "input" "Ljava/lang/StringBuilder;") ∈ lw_all := lw_g (lw_at lw_m1 170 rfl) rfl
theorem q260 : (Jvm.Cond.fieldLink "VersionSolver" (27 : Nat) "VersionSolver" "report" "Ljava/lang/String;") ∈ lw_all := lw_g (lw_at lw_m1 171 rfl) rfl
theorem q261 : (Jvm.Cond.fieldLink "VersionSolver" (468 : Nat) "VersionSolver" "saved" "LVersionSolver$Board;") ∈ lw_all := lw_g (lw_at lw_m1 172 rfl) rfl
theorem q262 : (Jvm.Cond.fieldLink "VersionSolver" (31 : Nat) "VersionSolver" "errorAt" "I") ∈ lw_all := lw_g (lw_at lw_m1 173 rfl) rfl
theorem q263 : (Jvm.Cond.fieldLink "VersionSolver" (35 : Nat) "VersionSolver" "failedAt" "I") ∈ lw_all := lw_g (lw_at lw_m1 174 rfl) rfl
theorem q264 : (Jvm.Cond.lays "VersionSolver" "VersionSolver" "board" "LVersionSolver$Board;") ∈ lw_all := lw_g (lw_at lw_m1 175 rfl) rfl
theorem q265 : (Jvm.Cond.soleField "VersionSolver" "board") ∈ lw_all := lw_g (lw_at lw_m1 176 rfl) rfl
theorem q266 : (Jvm.Cond.laysFinal "VersionSolver" "VersionSolver" "past" "Ljava/util/ArrayDeque;") ∈ lw_all := lw_g (lw_at lw_m1 177 rfl) rfl
theorem q267 : (Jvm.Cond.soleField "VersionSolver" "past") ∈ lw_all := lw_g (lw_at lw_m1 178 rfl) rfl
theorem q268 : (Jvm.Cond.laysFinal "VersionSolver" "VersionSolver" "input" "Ljava/lang/StringBuilder;") ∈ lw_all := lw_g (lw_at lw_m1 179 rfl) rfl
theorem q269 : (Jvm.Cond.soleField "VersionSolver" "input") ∈ lw_all := lw_g (lw_at lw_m1 180 rfl) rfl
theorem q270 : (Jvm.Cond.lays "VersionSolver" "VersionSolver" "report" "Ljava/lang/String;") ∈ lw_all := lw_g (lw_at lw_m1 181 rfl) rfl
theorem q271 : (Jvm.Cond.soleField "VersionSolver" "report") ∈ lw_all := lw_g (lw_at lw_m1 182 rfl) rfl
theorem q272 : (Jvm.Cond.lays "VersionSolver" "VersionSolver" "saved" "LVersionSolver$Board;") ∈ lw_all := lw_g (lw_at lw_m1 183 rfl) rfl
theorem q273 : (Jvm.Cond.soleField "VersionSolver" "saved") ∈ lw_all := lw_g (lw_at lw_m1 184 rfl) rfl
theorem q274 : (Jvm.Cond.lays "VersionSolver" "VersionSolver" "errorAt" "I") ∈ lw_all := lw_g (lw_at lw_m1 185 rfl) rfl
theorem q275 : (Jvm.Cond.soleField "VersionSolver" "errorAt") ∈ lw_all := lw_g (lw_at lw_m1 186 rfl) rfl
theorem q276 : (Jvm.Cond.lays "VersionSolver" "VersionSolver" "failedAt" "I") ∈ lw_all := lw_g (lw_at lw_m1 187 rfl) rfl
theorem q277 : (Jvm.Cond.soleField "VersionSolver" "failedAt") ∈ lw_all := lw_g (lw_at lw_m1 188 rfl) rfl
theorem q278 : (Jvm.Cond.superclass "VersionSolver" "java/lang/Object") ∈ lw_all := lw_g (lw_at lw_m1 189 rfl) rfl
theorem q280 : (Jvm.Cond.instanceMethod ({ cls := "VersionSolver", name := "pack", desc := "()I" } : Jvm.MethodName)) ∈ lw_all := lw_g (lw_at lw_m1 191 rfl) rfl
theorem q281 : (Jvm.Cond.selects "VersionSolver" ({ cls := "VersionSolver", name := "pack", desc := "()I" } : Jvm.MethodName) ({ cls := "VersionSolver", name := "pack", desc := "()I" } : Jvm.MethodName)) ∈ lw_all := lw_g (lw_at lw_m1 192 rfl) rfl
theorem q282 : (Jvm.Cond.code ({ cls := "VersionSolver", name := "pack", desc := "()I" } : Jvm.MethodName) prog_1_method_21_code (2 : Nat) (Option.some Jvm.ClassFile.FieldType.int)) ∈ lw_all := lw_g (lw_at lw_m1 193 rfl) rfl
theorem q283 : (Jvm.Cond.methodLink "VersionSolver" (72 : Nat) ({ cls := "java/util/ArrayList", name := "size", desc := "()I" } : Jvm.MethodName)) ∈ lw_all := lw_g (lw_at lw_m1 194 rfl) rfl
theorem q287 : (Jvm.Cond.methodLink "VersionSolver" (115 : Nat) ({ cls := "VersionSolver$Board", name := "copy", desc := "()LVersionSolver$Board;" } : Jvm.MethodName)) ∈ lw_all := lw_g (lw_at lw_m1 198 rfl) rfl
theorem q354 : (Jvm.Cond.fieldLinkNest "VersionSolver" (112 : Nat) "VersionSolver$Pack" "versions" "Ljava/util/ArrayList;" "VersionSolver") ∈ lw_tbl := lw_at lw_m2 25 rfl
theorem q356 : (Jvm.Cond.fieldLinkNest "VersionSolver" (155 : Nat) "VersionSolver$Pack" "isOpen" "Z" "VersionSolver") ∈ lw_tbl := lw_at lw_m2 27 rfl
theorem q405 : (Jvm.Cond.selects "VersionSolver" ({ cls := "java/lang/Object", name := "getClass", desc := "()Ljava/lang/Class;" } : Jvm.MethodName) ({ cls := "java/lang/Object", name := "getClass", desc := "()Ljava/lang/Class;" } : Jvm.MethodName)) ∈ lw_all := lw_g (lw_at lw_m2 76 rfl) rfl
theorem q465 : (Jvm.Cond.classLink "VersionSolver" (110 : Nat) "VersionSolver$Pack") ∈ lw_all := lw_g (lw_at lw_m2 136 rfl) rfl
theorem q466 : (Jvm.Cond.methodLinkNest "VersionSolver" (119 : Nat) ({ cls := "VersionSolver$Pack", name := "<init>", desc := "()V" } : Jvm.MethodName) "VersionSolver") ∈ lw_tbl := lw_at lw_m2 137 rfl
theorem q467 : (Jvm.Cond.methodLink "VersionSolver" (120 : Nat) ({ cls := "java/util/ArrayList", name := "add", desc := "(Ljava/lang/Object;)Z" } : Jvm.MethodName)) ∈ lw_all := lw_g (lw_at lw_m2 138 rfl) rfl
theorem q468 : (Jvm.Cond.methodLink "VersionSolver" (124 : Nat) ({ cls := "VersionSolver", name := "changed", desc := "(LVersionSolver$Board;I)I" } : Jvm.MethodName)) ∈ lw_all := lw_g (lw_at lw_m2 139 rfl) rfl
theorem q469 : (Jvm.Cond.privateMethod ({ cls := "VersionSolver", name := "changed", desc := "(LVersionSolver$Board;I)I" } : Jvm.MethodName)) ∈ lw_tbl := lw_at lw_m2 140 rfl
theorem q470 : (Jvm.Cond.instanceMethod ({ cls := "VersionSolver", name := "changed", desc := "(LVersionSolver$Board;I)I" } : Jvm.MethodName)) ∈ lw_all := lw_g (lw_at lw_m2 141 rfl) rfl
theorem q471 : (Jvm.Cond.code ({ cls := "VersionSolver", name := "changed", desc := "(LVersionSolver$Board;I)I" } : Jvm.MethodName) prog_1_method_14_code (3 : Nat) (Option.some Jvm.ClassFile.FieldType.int)) ∈ lw_all := lw_g (lw_at lw_m2 142 rfl) rfl
theorem q472 : (Jvm.Cond.methodLink "VersionSolver" (86 : Nat) ({ cls := "java/util/ArrayDeque", name := "addLast", desc := "(Ljava/lang/Object;)V" } : Jvm.MethodName)) ∈ lw_all := lw_g (lw_at lw_m2 143 rfl) rfl
theorem q490 : (Jvm.Cond.methodLink "VersionSolver" (90 : Nat) ({ cls := "java/util/ArrayDeque", name := "size", desc := "()I" } : Jvm.MethodName)) ∈ lw_all := lw_g (lw_at lw_m2 161 rfl) rfl
theorem q497 : (Jvm.Cond.methodLink "VersionSolver" (91 : Nat) ({ cls := "java/util/ArrayDeque", name := "removeFirst", desc := "()Ljava/lang/Object;" } : Jvm.MethodName)) ∈ lw_all := lw_g (lw_at lw_m2 168 rfl) rfl
theorem q509 : (Jvm.Cond.instanceMethod ({ cls := "VersionSolver", name := "version", desc := "(IIII)I" } : Jvm.MethodName)) ∈ lw_all := lw_g (lw_at lw_m2 180 rfl) rfl
theorem q510 : (Jvm.Cond.selects "VersionSolver" ({ cls := "VersionSolver", name := "version", desc := "(IIII)I" } : Jvm.MethodName) ({ cls := "VersionSolver", name := "version", desc := "(IIII)I" } : Jvm.MethodName)) ∈ lw_all := lw_g (lw_at lw_m2 181 rfl) rfl
theorem q511 : (Jvm.Cond.code ({ cls := "VersionSolver", name := "version", desc := "(IIII)I" } : Jvm.MethodName) prog_1_method_22_code (9 : Nat) (Option.some Jvm.ClassFile.FieldType.int)) ∈ lw_all := lw_g (lw_at lw_m2 182 rfl) rfl
theorem q512 : (Jvm.Cond.methodLink "VersionSolver" (102 : Nat) ({ cls := "VersionSolver", name := "isPack", desc := "(I)Z" } : Jvm.MethodName)) ∈ lw_all := lw_g (lw_at lw_m2 183 rfl) rfl
theorem q513 : (Jvm.Cond.privateMethod ({ cls := "VersionSolver", name := "isPack", desc := "(I)Z" } : Jvm.MethodName)) ∈ lw_tbl := lw_at lw_m2 184 rfl
theorem q514 : (Jvm.Cond.instanceMethod ({ cls := "VersionSolver", name := "isPack", desc := "(I)Z" } : Jvm.MethodName)) ∈ lw_all := lw_g (lw_at lw_m2 185 rfl) rfl
theorem q515 : (Jvm.Cond.code ({ cls := "VersionSolver", name := "isPack", desc := "(I)Z" } : Jvm.MethodName) prog_1_method_16_code (2 : Nat) (Option.some Jvm.ClassFile.FieldType.boolean)) ∈ lw_all := lw_g (lw_at lw_m2 186 rfl) rfl
theorem q516 : (Jvm.Cond.methodLink "VersionSolver" (98 : Nat) ({ cls := "VersionSolver", name := "isIn", desc := "(III)Z" } : Jvm.MethodName)) ∈ lw_all := lw_g (lw_at lw_m2 187 rfl) rfl
theorem q517 : (Jvm.Cond.static ({ cls := "VersionSolver", name := "isIn", desc := "(III)Z" } : Jvm.MethodName)) ∈ lw_all := lw_g (lw_at lw_m2 188 rfl) rfl
theorem q518 : (Jvm.Cond.code ({ cls := "VersionSolver", name := "isIn", desc := "(III)Z" } : Jvm.MethodName) prog_1_method_3_code (3 : Nat) (Option.some Jvm.ClassFile.FieldType.boolean)) ∈ lw_all := lw_g (lw_at lw_m2 189 rfl) rfl
theorem q519 : (Jvm.Cond.methodLink "VersionSolver" (128 : Nat) ({ cls := "VersionSolver", name := "nobody", desc := "(Z)I" } : Jvm.MethodName)) ∈ lw_all := lw_g (lw_at lw_m2 190 rfl) rfl
theorem q520 : (Jvm.Cond.privateMethod ({ cls := "VersionSolver", name := "nobody", desc := "(Z)I" } : Jvm.MethodName)) ∈ lw_tbl := lw_at lw_m2 191 rfl
theorem q521 : (Jvm.Cond.instanceMethod ({ cls := "VersionSolver", name := "nobody", desc := "(Z)I" } : Jvm.MethodName)) ∈ lw_all := lw_g (lw_at lw_m2 192 rfl) rfl
theorem q522 : (Jvm.Cond.code ({ cls := "VersionSolver", name := "nobody", desc := "(Z)I" } : Jvm.MethodName) prog_1_method_15_code (2 : Nat) (Option.some Jvm.ClassFile.FieldType.int)) ∈ lw_all := lw_g (lw_at lw_m2 193 rfl) rfl
theorem q523 : (Jvm.Cond.methodLink "VersionSolver" (132 : Nat) ({ cls := "VersionSolver", name := "areDigits", desc := "([I)Z" } : Jvm.MethodName)) ∈ lw_all := lw_g (lw_at lw_m2 194 rfl) rfl
theorem q524 : (Jvm.Cond.static ({ cls := "VersionSolver", name := "areDigits", desc := "([I)Z" } : Jvm.MethodName)) ∈ lw_all := lw_g (lw_at lw_m2 195 rfl) rfl
theorem q525 : (Jvm.Cond.code ({ cls := "VersionSolver", name := "areDigits", desc := "([I)Z" } : Jvm.MethodName) prog_1_method_20_code (5 : Nat) (Option.some Jvm.ClassFile.FieldType.boolean)) ∈ lw_all := lw_g (lw_at lw_m2 196 rfl) rfl
theorem q526 : (Jvm.Cond.methodLink "VersionSolver" (136 : Nat) ({ cls := "VersionSolver", name := "bad", desc := "(Z)I" } : Jvm.MethodName)) ∈ lw_all := lw_g (lw_at lw_m2 197 rfl) rfl
theorem q527 : (Jvm.Cond.static ({ cls := "VersionSolver", name := "bad", desc := "(Z)I" } : Jvm.MethodName)) ∈ lw_all := lw_g (lw_at lw_m2 198 rfl) rfl
theorem q528 : (Jvm.Cond.code ({ cls := "VersionSolver", name := "bad", desc := "(Z)I" } : Jvm.MethodName) prog_1_method_7_code (1 : Nat) (Option.some Jvm.ClassFile.FieldType.int)) ∈ lw_all := lw_g (lw_at lw_m2 199 rfl) rfl
theorem q529 : (Jvm.Cond.methodLink "VersionSolver" (139 : Nat) ({ cls := "VersionSolver", name := "first", desc := "([I)I" } : Jvm.MethodName)) ∈ lw_all := lw_g (lw_at lw_m2 200 rfl) rfl
theorem q530 : (Jvm.Cond.static ({ cls := "VersionSolver", name := "first", desc := "([I)I" } : Jvm.MethodName)) ∈ lw_all := lw_g (lw_at lw_m2 201 rfl) rfl
theorem q531 : (Jvm.Cond.code ({ cls := "VersionSolver", name := "first", desc := "([I)I" } : Jvm.MethodName) prog_1_method_6_code (5 : Nat) (Option.some Jvm.ClassFile.FieldType.int)) ∈ lw_all := lw_g (lw_at lw_m2 202 rfl) rfl
theorem q532 : (Jvm.Cond.methodLink "VersionSolver" (106 : Nat) ({ cls := "java/util/ArrayList", name := "get", desc := "(I)Ljava/lang/Object;" } : Jvm.MethodName)) ∈ lw_all := lw_g (lw_at lw_m2 203 rfl) rfl
theorem q546 : (Jvm.Cond.classLink "VersionSolver" (46 : Nat) "VersionSolver$Version") ∈ lw_all := lw_g (lw_at lw_m2 217 rfl) rfl
theorem q548 : (Jvm.Cond.methodLink "VersionSolver" (143 : Nat) ({ cls := "VersionSolver$Version", name := "<init>", desc := "(III)V" } : Jvm.MethodName)) ∈ lw_all := lw_g (lw_at lw_m2 219 rfl) rfl
theorem q553 : (Jvm.Cond.fieldLinkNest "VersionSolver" (58 : Nat) "VersionSolver$Version" "major" "I" "VersionSolver") ∈ lw_tbl := lw_at lw_m2 224 rfl
theorem q564 : (Jvm.Cond.methodLink "VersionSolver" (146 : Nat) ({ cls := "VersionSolver$Pack", name := "hasSame", desc := "(LVersionSolver$Version;)Z" } : Jvm.MethodName)) ∈ lw_all := lw_g (lw_at lw_m2 235 rfl) rfl
theorem q586 : (Jvm.Cond.methodLink "VersionSolver" (149 : Nat) ({ cls := "VersionSolver", name := "state", desc := "(Z)I" } : Jvm.MethodName)) ∈ lw_all := lw_g (lw_at lw_m3 17 rfl) rfl
theorem q587 : (Jvm.Cond.static ({ cls := "VersionSolver", name := "state", desc := "(Z)I" } : Jvm.MethodName)) ∈ lw_all := lw_g (lw_at lw_m3 18 rfl) rfl
theorem q588 : (Jvm.Cond.code ({ cls := "VersionSolver", name := "state", desc := "(Z)I" } : Jvm.MethodName) prog_1_method_9_code (1 : Nat) (Option.some Jvm.ClassFile.FieldType.int)) ∈ lw_all := lw_g (lw_at lw_m3 19 rfl) rfl
theorem q589 : (Jvm.Cond.methodLink "VersionSolver" (152 : Nat) ({ cls := "VersionSolver", name := "full", desc := "(Z)I" } : Jvm.MethodName)) ∈ lw_all := lw_g (lw_at lw_m3 20 rfl) rfl
theorem q590 : (Jvm.Cond.static ({ cls := "VersionSolver", name := "full", desc := "(Z)I" } : Jvm.MethodName)) ∈ lw_all := lw_g (lw_at lw_m3 21 rfl) rfl
theorem q591 : (Jvm.Cond.code ({ cls := "VersionSolver", name := "full", desc := "(Z)I" } : Jvm.MethodName) prog_1_method_8_code (1 : Nat) (Option.some Jvm.ClassFile.FieldType.int)) ∈ lw_all := lw_g (lw_at lw_m3 22 rfl) rfl
theorem q593 : (Jvm.Cond.instanceMethod ({ cls := "VersionSolver", name := "open", desc := "(IZ)I" } : Jvm.MethodName)) ∈ lw_all := lw_g (lw_at lw_m3 24 rfl) rfl
theorem q594 : (Jvm.Cond.selects "VersionSolver" ({ cls := "VersionSolver", name := "open", desc := "(IZ)I" } : Jvm.MethodName) ({ cls := "VersionSolver", name := "open", desc := "(IZ)I" } : Jvm.MethodName)) ∈ lw_all := lw_g (lw_at lw_m3 25 rfl) rfl
theorem q595 : (Jvm.Cond.code ({ cls := "VersionSolver", name := "open", desc := "(IZ)I" } : Jvm.MethodName) prog_1_method_23_code (5 : Nat) (Option.some Jvm.ClassFile.FieldType.int)) ∈ lw_all := lw_g (lw_at lw_m3 26 rfl) rfl
theorem q597 : (Jvm.Cond.instanceMethod ({ cls := "VersionSolver", name := "ofVersion", desc := "(III)I" } : Jvm.MethodName)) ∈ lw_all := lw_g (lw_at lw_m3 28 rfl) rfl
theorem q598 : (Jvm.Cond.selects "VersionSolver" ({ cls := "VersionSolver", name := "ofVersion", desc := "(III)I" } : Jvm.MethodName) ({ cls := "VersionSolver", name := "ofVersion", desc := "(III)I" } : Jvm.MethodName)) ∈ lw_all := lw_g (lw_at lw_m3 29 rfl) rfl
theorem q599 : (Jvm.Cond.code ({ cls := "VersionSolver", name := "ofVersion", desc := "(III)I" } : Jvm.MethodName) prog_1_method_25_code (6 : Nat) (Option.some Jvm.ClassFile.FieldType.int)) ∈ lw_all := lw_g (lw_at lw_m3 30 rfl) rfl
theorem q600 : (Jvm.Cond.methodLink "VersionSolver" (177 : Nat) ({ cls := "VersionSolver", name := "isVersion", desc := "(II)Z" } : Jvm.MethodName)) ∈ lw_all := lw_g (lw_at lw_m3 31 rfl) rfl
theorem q601 : (Jvm.Cond.privateMethod ({ cls := "VersionSolver", name := "isVersion", desc := "(II)Z" } : Jvm.MethodName)) ∈ lw_tbl := lw_at lw_m3 32 rfl
theorem q602 : (Jvm.Cond.instanceMethod ({ cls := "VersionSolver", name := "isVersion", desc := "(II)Z" } : Jvm.MethodName)) ∈ lw_all := lw_g (lw_at lw_m3 33 rfl) rfl
theorem q603 : (Jvm.Cond.code ({ cls := "VersionSolver", name := "isVersion", desc := "(II)Z" } : Jvm.MethodName) prog_1_method_17_code (3 : Nat) (Option.some Jvm.ClassFile.FieldType.boolean)) ∈ lw_all := lw_g (lw_at lw_m3 34 rfl) rfl
theorem q604 : (Jvm.Cond.methodLink "VersionSolver" (180 : Nat) ({ cls := "VersionSolver$Version", name := "number", desc := "(I)I" } : Jvm.MethodName)) ∈ lw_all := lw_g (lw_at lw_m3 35 rfl) rfl
theorem q608 : (Jvm.Cond.methodLink "VersionSolver" (184 : Nat) ({ cls := "VersionSolver$Pack", name := "placeOf", desc := "(I)I" } : Jvm.MethodName)) ∈ lw_all := lw_g (lw_at lw_m3 39 rfl) rfl
theorem q617 : (Jvm.Cond.methodLink "VersionSolver" (187 : Nat) ({ cls := "VersionSolver", name := "tiesOf", desc := "(II)I" } : Jvm.MethodName)) ∈ lw_all := lw_g (lw_at lw_m3 48 rfl) rfl
theorem q618 : (Jvm.Cond.privateMethod ({ cls := "VersionSolver", name := "tiesOf", desc := "(II)I" } : Jvm.MethodName)) ∈ lw_tbl := lw_at lw_m3 49 rfl
theorem q619 : (Jvm.Cond.instanceMethod ({ cls := "VersionSolver", name := "tiesOf", desc := "(II)I" } : Jvm.MethodName)) ∈ lw_all := lw_g (lw_at lw_m3 50 rfl) rfl
theorem q620 : (Jvm.Cond.code ({ cls := "VersionSolver", name := "tiesOf", desc := "(II)I" } : Jvm.MethodName) prog_1_method_24_code (6 : Nat) (Option.some Jvm.ClassFile.FieldType.int)) ∈ lw_all := lw_g (lw_at lw_m3 51 rfl) rfl
theorem q621 : (Jvm.Cond.methodLink "VersionSolver" (159 : Nat) ({ cls := "java/util/ArrayList", name := "iterator", desc := "()Ljava/util/Iterator;" } : Jvm.MethodName)) ∈ lw_all := lw_g (lw_at lw_m3 52 rfl) rfl
theorem q622 : (Jvm.Cond.interfaceEntry "VersionSolver" (163 : Nat)) ∈ lw_tbl := lw_at lw_m3 53 rfl
theorem q623 : (Jvm.Cond.methodLink "VersionSolver" (163 : Nat) ({ cls := "java/util/Iterator", name := "hasNext", desc := "()Z" } : Jvm.MethodName)) ∈ lw_all := lw_g (lw_at lw_m3 54 rfl) rfl
theorem q624 : (Jvm.Cond.interfaceEntry "VersionSolver" (168 : Nat)) ∈ lw_tbl := lw_at lw_m3 55 rfl
theorem q625 : (Jvm.Cond.methodLink "VersionSolver" (168 : Nat) ({ cls := "java/util/Iterator", name := "next", desc := "()Ljava/lang/Object;" } : Jvm.MethodName)) ∈ lw_all := lw_g (lw_at lw_m3 56 rfl) rfl
theorem q626 : (Jvm.Cond.classLink "VersionSolver" (171 : Nat) "VersionSolver$Rule") ∈ lw_all := lw_g (lw_at lw_m3 57 rfl) rfl
theorem q627 : (Jvm.Cond.methodLink "VersionSolver" (173 : Nat) ({ cls := "VersionSolver$Rule", name := "isOf", desc := "(II)Z" } : Jvm.MethodName)) ∈ lw_all := lw_g (lw_at lw_m3 58 rfl) rfl
theorem q638 : (Jvm.Cond.instanceMethod ({ cls := "VersionSolver", name := "covers", desc := "(II)I" } : Jvm.MethodName)) ∈ lw_all := lw_g (lw_at lw_m3 69 rfl) rfl
theorem q639 : (Jvm.Cond.selects "VersionSolver" ({ cls := "VersionSolver", name := "covers", desc := "(II)I" } : Jvm.MethodName) ({ cls := "VersionSolver", name := "covers", desc := "(II)I" } : Jvm.MethodName)) ∈ lw_all := lw_g (lw_at lw_m3 70 rfl) rfl
theorem q640 : (Jvm.Cond.code ({ cls := "VersionSolver", name := "covers", desc := "(II)I" } : Jvm.MethodName) prog_1_method_26_code (4 : Nat) (Option.some Jvm.ClassFile.FieldType.int)) ∈ lw_all := lw_g (lw_at lw_m3 71 rfl) rfl
theorem q641 : (Jvm.Cond.methodLink "VersionSolver" (191 : Nat) ({ cls := "VersionSolver", name := "isRange", desc := "(I)Z" } : Jvm.MethodName)) ∈ lw_all := lw_g (lw_at lw_m3 72 rfl) rfl
theorem q642 : (Jvm.Cond.static ({ cls := "VersionSolver", name := "isRange", desc := "(I)Z" } : Jvm.MethodName)) ∈ lw_all := lw_g (lw_at lw_m3 73 rfl) rfl
theorem q643 : (Jvm.Cond.code ({ cls := "VersionSolver", name := "isRange", desc := "(I)Z" } : Jvm.MethodName) prog_1_method_19_code (1 : Nat) (Option.some Jvm.ClassFile.FieldType.boolean)) ∈ lw_all := lw_g (lw_at lw_m3 74 rfl) rfl
theorem q644 : (Jvm.Cond.methodLink "VersionSolver" (194 : Nat) ({ cls := "VersionSolver$Pack", name := "covers", desc := "(I)I" } : Jvm.MethodName)) ∈ lw_all := lw_g (lw_at lw_m3 75 rfl) rfl
theorem q654 : (Jvm.Cond.static ({ cls := "VersionSolver", name := "satisfies", desc := "(LVersionSolver$Version;I)Z" } : Jvm.MethodName)) ∈ lw_all := lw_g (lw_at lw_m3 85 rfl) rfl
theorem q655 : (Jvm.Cond.code ({ cls := "VersionSolver", name := "satisfies", desc := "(LVersionSolver$Version;I)Z" } : Jvm.MethodName) prog_1_method_10_code (3 : Nat) (Option.some Jvm.ClassFile.FieldType.boolean)) ∈ lw_all := lw_g (lw_at lw_m3 86 rfl) rfl
theorem q656 : (Jvm.Cond.methodLink "VersionSolver" (48 : Nat) ({ cls := "VersionSolver$Version", name := "<init>", desc := "(I)V" } : Jvm.MethodName)) ∈ lw_all := lw_g (lw_at lw_m3 87 rfl) rfl
theorem q660 : (Jvm.Cond.methodLink "VersionSolver" (51 : Nat) ({ cls := "VersionSolver$Version", name := "isSame", desc := "(LVersionSolver$Version;)Z" } : Jvm.MethodName)) ∈ lw_all := lw_g (lw_at lw_m3 91 rfl) rfl
theorem q661 : (Jvm.Cond.methodLink "VersionSolver" (55 : Nat) ({ cls := "VersionSolver$Version", name := "isBefore", desc := "(LVersionSolver$Version;)Z" } : Jvm.MethodName)) ∈ lw_all := lw_g (lw_at lw_m3 92 rfl) rfl
theorem q662 : (Jvm.Cond.methodLink "VersionSolver" (61 : Nat) ({ cls := "VersionSolver$Version", name := "isOfLine", desc := "(LVersionSolver$Version;)Z" } : Jvm.MethodName)) ∈ lw_all := lw_g (lw_at lw_m3 93 rfl) rfl
theorem q668 : (Jvm.Cond.static ({ cls := "VersionSolver", name := "namesLine", desc := "(LVersionSolver$Version;I)Z" } : Jvm.MethodName)) ∈ lw_all := lw_g (lw_at lw_m3 99 rfl) rfl
theorem q669 : (Jvm.Cond.code ({ cls := "VersionSolver", name := "namesLine", desc := "(LVersionSolver$Version;I)Z" } : Jvm.MethodName) prog_1_method_11_code (3 : Nat) (Option.some Jvm.ClassFile.FieldType.boolean)) ∈ lw_all := lw_g (lw_at lw_m3 100 rfl) rfl
theorem q670 : (Jvm.Cond.methodLink "VersionSolver" (64 : Nat) ({ cls := "VersionSolver$Version", name := "isRelease", desc := "()Z" } : Jvm.MethodName)) ∈ lw_all := lw_g (lw_at lw_m3 101 rfl) rfl
theorem q672 : (Jvm.Cond.instanceMethod ({ cls := "VersionSolver", name := "latest", desc := "(II)I" } : Jvm.MethodName)) ∈ lw_all := lw_g (lw_at lw_m3 103 rfl) rfl
theorem q673 : (Jvm.Cond.selects "VersionSolver" ({ cls := "VersionSolver", name := "latest", desc := "(II)I" } : Jvm.MethodName) ({ cls := "VersionSolver", name := "latest", desc := "(II)I" } : Jvm.MethodName)) ∈ lw_all := lw_g (lw_at lw_m3 104 rfl) rfl
theorem q674 : (Jvm.Cond.code ({ cls := "VersionSolver", name := "latest", desc := "(II)I" } : Jvm.MethodName) prog_1_method_27_code (6 : Nat) (Option.some Jvm.ClassFile.FieldType.int)) ∈ lw_all := lw_g (lw_at lw_m3 105 rfl) rfl
theorem q675 : (Jvm.Cond.methodLink "VersionSolver" (197 : Nat) ({ cls := "VersionSolver", name := "covers", desc := "(II)I" } : Jvm.MethodName)) ∈ lw_all := lw_g (lw_at lw_m3 106 rfl) rfl
theorem q676 : (Jvm.Cond.methodLink "VersionSolver" (199 : Nat) ({ cls := "VersionSolver", name := "has", desc := "(II)Z" } : Jvm.MethodName)) ∈ lw_all := lw_g (lw_at lw_m3 107 rfl) rfl
theorem q677 : (Jvm.Cond.static ({ cls := "VersionSolver", name := "has", desc := "(II)Z" } : Jvm.MethodName)) ∈ lw_all := lw_g (lw_at lw_m3 108 rfl) rfl
theorem q678 : (Jvm.Cond.code ({ cls := "VersionSolver", name := "has", desc := "(II)Z" } : Jvm.MethodName) prog_1_method_4_code (2 : Nat) (Option.some Jvm.ClassFile.FieldType.boolean)) ∈ lw_all := lw_g (lw_at lw_m3 109 rfl) rfl
theorem q679 : (Jvm.Cond.methodLink "VersionSolver" (202 : Nat) ({ cls := "VersionSolver$Pack", name := "rank", desc := "(I)I" } : Jvm.MethodName)) ∈ lw_all := lw_g (lw_at lw_m3 110 rfl) rfl
theorem q685 : (Jvm.Cond.instanceMethod ({ cls := "VersionSolver", name := "want", desc := "(II)I" } : Jvm.MethodName)) ∈ lw_all := lw_g (lw_at lw_m3 116 rfl) rfl
theorem q686 : (Jvm.Cond.selects "VersionSolver" ({ cls := "VersionSolver", name := "want", desc := "(II)I" } : Jvm.MethodName) ({ cls := "VersionSolver", name := "want", desc := "(II)I" } : Jvm.MethodName)) ∈ lw_all := lw_g (lw_at lw_m3 117 rfl) rfl
theorem q687 : (Jvm.Cond.code ({ cls := "VersionSolver", name := "want", desc := "(II)I" } : Jvm.MethodName) prog_1_method_30_code (4 : Nat) (Option.some Jvm.ClassFile.FieldType.int)) ∈ lw_all := lw_g (lw_at lw_m3 118 rfl) rfl
theorem q688 : (Jvm.Cond.methodLink "VersionSolver" (208 : Nat) ({ cls := "VersionSolver", name := "whyNoWant", desc := "(II)I" } : Jvm.MethodName)) ∈ lw_all := lw_g (lw_at lw_m3 119 rfl) rfl
theorem q689 : (Jvm.Cond.privateMethod ({ cls := "VersionSolver", name := "whyNoWant", desc := "(II)I" } : Jvm.MethodName)) ∈ lw_tbl := lw_at lw_m3 120 rfl
theorem q690 : (Jvm.Cond.instanceMethod ({ cls := "VersionSolver", name := "whyNoWant", desc := "(II)I" } : Jvm.MethodName)) ∈ lw_all := lw_g (lw_at lw_m3 121 rfl) rfl
theorem q691 : (Jvm.Cond.code ({ cls := "VersionSolver", name := "whyNoWant", desc := "(II)I" } : Jvm.MethodName) prog_1_method_29_code (3 : Nat) (Option.some Jvm.ClassFile.FieldType.int)) ∈ lw_all := lw_g (lw_at lw_m3 122 rfl) rfl
theorem q692 : (Jvm.Cond.classLink "VersionSolver" (211 : Nat) "VersionSolver$Want") ∈ lw_all := lw_g (lw_at lw_m3 123 rfl) rfl
theorem q694 : (Jvm.Cond.methodLink "VersionSolver" (213 : Nat) ({ cls := "VersionSolver$Want", name := "<init>", desc := "(II)V" } : Jvm.MethodName)) ∈ lw_all := lw_g (lw_at lw_m3 125 rfl) rfl
theorem q725 : (Jvm.Cond.methodLink "VersionSolver" (216 : Nat) ({ cls := "VersionSolver", name := "added", desc := "(LVersionSolver$Rule;)I" } : Jvm.MethodName)) ∈ lw_all := lw_g (lw_at lw_m3 156 rfl) rfl
theorem q726 : (Jvm.Cond.privateMethod ({ cls := "VersionSolver", name := "added", desc := "(LVersionSolver$Rule;)I" } : Jvm.MethodName)) ∈ lw_tbl := lw_at lw_m3 157 rfl
theorem q727 : (Jvm.Cond.instanceMethod ({ cls := "VersionSolver", name := "added", desc := "(LVersionSolver$Rule;)I" } : Jvm.MethodName)) ∈ lw_all := lw_g (lw_at lw_m3 158 rfl) rfl
theorem q728 : (Jvm.Cond.code ({ cls := "VersionSolver", name := "added", desc := "(LVersionSolver$Rule;)I" } : Jvm.MethodName) prog_1_method_28_code (3 : Nat) (Option.some Jvm.ClassFile.FieldType.int)) ∈ lw_all := lw_g (lw_at lw_m3 159 rfl) rfl
theorem q729 : (Jvm.Cond.methodLink "VersionSolver" (205 : Nat) ({ cls := "VersionSolver$Board", name := "add", desc := "(LVersionSolver$Rule;)I" } : Jvm.MethodName)) ∈ lw_all := lw_g (lw_at lw_m3 160 rfl) rfl
theorem q735 : (Jvm.Cond.instanceMethod ({ cls := "VersionSolver", name := "need", desc := "(IIII)I" } : Jvm.MethodName)) ∈ lw_all := lw_g (lw_at lw_m3 166 rfl) rfl
theorem q736 : (Jvm.Cond.selects "VersionSolver" ({ cls := "VersionSolver", name := "need", desc := "(IIII)I" } : Jvm.MethodName) ({ cls := "VersionSolver", name := "need", desc := "(IIII)I" } : Jvm.MethodName)) ∈ lw_all := lw_g (lw_at lw_m3 167 rfl) rfl
theorem q737 : (Jvm.Cond.code ({ cls := "VersionSolver", name := "need", desc := "(IIII)I" } : Jvm.MethodName) prog_1_method_32_code (6 : Nat) (Option.some Jvm.ClassFile.FieldType.int)) ∈ lw_all := lw_g (lw_at lw_m3 168 rfl) rfl
theorem q738 : (Jvm.Cond.methodLink "VersionSolver" (219 : Nat) ({ cls := "VersionSolver", name := "whyNoTie", desc := "(IIII)I" } : Jvm.MethodName)) ∈ lw_all := lw_g (lw_at lw_m3 169 rfl) rfl
theorem q739 : (Jvm.Cond.privateMethod ({ cls := "VersionSolver", name := "whyNoTie", desc := "(IIII)I" } : Jvm.MethodName)) ∈ lw_tbl := lw_at lw_m3 170 rfl
theorem q740 : (Jvm.Cond.instanceMethod ({ cls := "VersionSolver", name := "whyNoTie", desc := "(IIII)I" } : Jvm.MethodName)) ∈ lw_all := lw_g (lw_at lw_m3 171 rfl) rfl
theorem q741 : (Jvm.Cond.code ({ cls := "VersionSolver", name := "whyNoTie", desc := "(IIII)I" } : Jvm.MethodName) prog_1_method_31_code (5 : Nat) (Option.some Jvm.ClassFile.FieldType.int)) ∈ lw_all := lw_g (lw_at lw_m3 172 rfl) rfl
theorem q742 : (Jvm.Cond.classLink "VersionSolver" (223 : Nat) "VersionSolver$Need") ∈ lw_all := lw_g (lw_at lw_m3 173 rfl) rfl
theorem q744 : (Jvm.Cond.methodLink "VersionSolver" (225 : Nat) ({ cls := "VersionSolver$Need", name := "<init>", desc := "(IIII)V" } : Jvm.MethodName)) ∈ lw_all := lw_g (lw_at lw_m3 175 rfl) rfl
theorem q757 : (Jvm.Cond.instanceMethod ({ cls := "VersionSolver", name := "bar", desc := "(IIII)I" } : Jvm.MethodName)) ∈ lw_all := lw_g (lw_at lw_m3 188 rfl) rfl
theorem q758 : (Jvm.Cond.selects "VersionSolver" ({ cls := "VersionSolver", name := "bar", desc := "(IIII)I" } : Jvm.MethodName) ({ cls := "VersionSolver", name := "bar", desc := "(IIII)I" } : Jvm.MethodName)) ∈ lw_all := lw_g (lw_at lw_m3 189 rfl) rfl
theorem q759 : (Jvm.Cond.code ({ cls := "VersionSolver", name := "bar", desc := "(IIII)I" } : Jvm.MethodName) prog_1_method_33_code (6 : Nat) (Option.some Jvm.ClassFile.FieldType.int)) ∈ lw_all := lw_g (lw_at lw_m3 190 rfl) rfl
theorem q760 : (Jvm.Cond.classLink "VersionSolver" (228 : Nat) "VersionSolver$Bar") ∈ lw_all := lw_g (lw_at lw_m3 191 rfl) rfl
theorem q762 : (Jvm.Cond.methodLink "VersionSolver" (230 : Nat) ({ cls := "VersionSolver$Bar", name := "<init>", desc := "(IIII)V" } : Jvm.MethodName)) ∈ lw_all := lw_g (lw_at lw_m3 193 rfl) rfl
theorem q772 : (Jvm.Cond.instanceMethod ({ cls := "VersionSolver", name := "drop", desc := "()I" } : Jvm.MethodName)) ∈ lw_all := lw_g (lw_at lw_m3 203 rfl) rfl
theorem q773 : (Jvm.Cond.selects "VersionSolver" ({ cls := "VersionSolver", name := "drop", desc := "()I" } : Jvm.MethodName) ({ cls := "VersionSolver", name := "drop", desc := "()I" } : Jvm.MethodName)) ∈ lw_all := lw_g (lw_at lw_m3 204 rfl) rfl
theorem q774 : (Jvm.Cond.code ({ cls := "VersionSolver", name := "drop", desc := "()I" } : Jvm.MethodName) prog_1_method_34_code (2 : Nat) (Option.some Jvm.ClassFile.FieldType.int)) ∈ lw_all := lw_g (lw_at lw_m3 205 rfl) rfl
theorem q775 : (Jvm.Cond.methodLink "VersionSolver" (231 : Nat) ({ cls := "java/util/ArrayList", name := "isEmpty", desc := "()Z" } : Jvm.MethodName)) ∈ lw_all := lw_g (lw_at lw_m3 206 rfl) rfl
theorem q779 : (Jvm.Cond.methodLink "VersionSolver" (234 : Nat) ({ cls := "java/util/ArrayList", name := "remove", desc := "(I)Ljava/lang/Object;" } : Jvm.MethodName)) ∈ lw_all := lw_g (lw_at lw_m3 210 rfl) rfl
theorem q788 : (Jvm.Cond.instanceMethod ({ cls := "VersionSolver", name := "rule", desc := "(II)I" } : Jvm.MethodName)) ∈ lw_all := lw_g (lw_at lw_m3 219 rfl) rfl
theorem q789 : (Jvm.Cond.selects "VersionSolver" ({ cls := "VersionSolver", name := "rule", desc := "(II)I" } : Jvm.MethodName) ({ cls := "VersionSolver", name := "rule", desc := "(II)I" } : Jvm.MethodName)) ∈ lw_all := lw_g (lw_at lw_m3 220 rfl) rfl
theorem q790 : (Jvm.Cond.code ({ cls := "VersionSolver", name := "rule", desc := "(II)I" } : Jvm.MethodName) prog_1_method_35_code (4 : Nat) (Option.some Jvm.ClassFile.FieldType.int)) ∈ lw_all := lw_g (lw_at lw_m3 221 rfl) rfl
theorem q791 : (Jvm.Cond.methodLink "VersionSolver" (237 : Nat) ({ cls := "VersionSolver", name := "isRule", desc := "(I)Z" } : Jvm.MethodName)) ∈ lw_all := lw_g (lw_at lw_m3 222 rfl) rfl
theorem q792 : (Jvm.Cond.privateMethod ({ cls := "VersionSolver", name := "isRule", desc := "(I)Z" } : Jvm.MethodName)) ∈ lw_tbl := lw_at lw_m3 223 rfl
theorem q793 : (Jvm.Cond.instanceMethod ({ cls := "VersionSolver", name := "isRule", desc := "(I)Z" } : Jvm.MethodName)) ∈ lw_all := lw_g (lw_at lw_m3 224 rfl) rfl
theorem q794 : (Jvm.Cond.code ({ cls := "VersionSolver", name := "isRule", desc := "(I)Z" } : Jvm.MethodName) prog_1_method_18_code (2 : Nat) (Option.some Jvm.ClassFile.FieldType.boolean)) ∈ lw_all := lw_g (lw_at lw_m3 225 rfl) rfl
theorem q795 : (Jvm.Cond.methodLink "VersionSolver" (240 : Nat) ({ cls := "VersionSolver$Rule", name := "what", desc := "(I)I" } : Jvm.MethodName)) ∈ lw_all := lw_g (lw_at lw_m3 226 rfl) rfl
theorem q808 : (Jvm.Cond.static ({ cls := "VersionSolver", name := "many", desc := "(I)I" } : Jvm.MethodName)) ∈ lw_all := lw_g (lw_at lw_m3 239 rfl) rfl
theorem q809 : (Jvm.Cond.code ({ cls := "VersionSolver", name := "many", desc := "(I)I" } : Jvm.MethodName) prog_1_method_5_code (3 : Nat) (Option.some Jvm.ClassFile.FieldType.int)) ∈ lw_all := lw_g (lw_at lw_m4 0 rfl) rfl
theorem q831 : (Jvm.Cond.instanceMethod ({ cls := "VersionSolver", name := "learned", desc := "(II)I" } : Jvm.MethodName)) ∈ lw_all := lw_g (lw_at lw_m4 22 rfl) rfl
theorem q832 : (Jvm.Cond.selects "VersionSolver" ({ cls := "VersionSolver", name := "learned", desc := "(II)I" } : Jvm.MethodName) ({ cls := "VersionSolver", name := "learned", desc := "(II)I" } : Jvm.MethodName)) ∈ lw_all := lw_g (lw_at lw_m4 23 rfl) rfl
theorem q833 : (Jvm.Cond.code ({ cls := "VersionSolver", name := "learned", desc := "(II)I" } : Jvm.MethodName) prog_1_method_36_code (3 : Nat) (Option.some Jvm.ClassFile.FieldType.int)) ∈ lw_all := lw_g (lw_at lw_m4 24 rfl) rfl
theorem q834 : (Jvm.Cond.methodLink "VersionSolver" (243 : Nat) ({ cls := "VersionSolver$Rule", name := "stateOf", desc := "(I)I" } : Jvm.MethodName)) ∈ lw_all := lw_g (lw_at lw_m4 25 rfl) rfl
theorem q845 : (Jvm.Cond.instanceMethod ({ cls := "VersionSolver", name := "states", desc := "(I)I" } : Jvm.MethodName)) ∈ lw_all := lw_g (lw_at lw_m4 36 rfl) rfl
theorem q846 : (Jvm.Cond.selects "VersionSolver" ({ cls := "VersionSolver", name := "states", desc := "(I)I" } : Jvm.MethodName) ({ cls := "VersionSolver", name := "states", desc := "(I)I" } : Jvm.MethodName)) ∈ lw_all := lw_g (lw_at lw_m4 37 rfl) rfl
theorem q847 : (Jvm.Cond.code ({ cls := "VersionSolver", name := "states", desc := "(I)I" } : Jvm.MethodName) prog_1_method_39_code (2 : Nat) (Option.some Jvm.ClassFile.FieldType.int)) ∈ lw_all := lw_g (lw_at lw_m4 38 rfl) rfl
theorem q848 : (Jvm.Cond.methodLink "VersionSolver" (261 : Nat) ({ cls := "VersionSolver", name := "traced", desc := "()LVersionSolver$Trace;" } : Jvm.MethodName)) ∈ lw_all := lw_g (lw_at lw_m4 39 rfl) rfl
theorem q849 : (Jvm.Cond.privateMethod ({ cls := "VersionSolver", name := "traced", desc := "()LVersionSolver$Trace;" } : Jvm.MethodName)) ∈ lw_tbl := lw_at lw_m4 40 rfl
theorem q850 : (Jvm.Cond.instanceMethod ({ cls := "VersionSolver", name := "traced", desc := "()LVersionSolver$Trace;" } : Jvm.MethodName)) ∈ lw_all := lw_g (lw_at lw_m4 41 rfl) rfl
theorem q851 : (Jvm.Cond.code ({ cls := "VersionSolver", name := "traced", desc := "()LVersionSolver$Trace;" } : Jvm.MethodName) prog_1_method_38_code (1 : Nat) (Option.some (Jvm.ClassFile.FieldType.object "VersionSolver$Trace"))) ∈ lw_all := lw_g (lw_at lw_m4 42 rfl) rfl
theorem q852 : (Jvm.Cond.classLink "VersionSolver" (249 : Nat) "VersionSolver$Trace") ∈ lw_all := lw_g (lw_at lw_m4 43 rfl) rfl
theorem q854 : (Jvm.Cond.methodLink "VersionSolver" (251 : Nat) ({ cls := "VersionSolver$Trace", name := "<init>", desc := "(LVersionSolver$Board;)V" } : Jvm.MethodName)) ∈ lw_all := lw_g (lw_at lw_m4 45 rfl) rfl
theorem q900 : (Jvm.Cond.fieldLinkNest "VersionSolver" (265 : Nat) "VersionSolver$Trace" "left" "[I" "VersionSolver") ∈ lw_tbl := lw_at lw_m4 91 rfl
theorem q902 : (Jvm.Cond.fieldLinkNest "VersionSolver" (269 : Nat) "VersionSolver$Trace" "steps" "Ljava/util/ArrayList;" "VersionSolver") ∈ lw_tbl := lw_at lw_m4 93 rfl
theorem q904 : (Jvm.Cond.fieldLinkNest "VersionSolver" (300 : Nat) "VersionSolver$Trace" "conflict" "I" "VersionSolver") ∈ lw_tbl := lw_at lw_m4 95 rfl
theorem q916 : (Jvm.Cond.methodLink "VersionSolver" (254 : Nat) ({ cls := "VersionSolver", name := "allAssumptions", desc := "()I" } : Jvm.MethodName)) ∈ lw_all := lw_g (lw_at lw_m4 107 rfl) rfl
theorem q917 : (Jvm.Cond.privateMethod ({ cls := "VersionSolver", name := "allAssumptions", desc := "()I" } : Jvm.MethodName)) ∈ lw_tbl := lw_at lw_m4 108 rfl
theorem q918 : (Jvm.Cond.instanceMethod ({ cls := "VersionSolver", name := "allAssumptions", desc := "()I" } : Jvm.MethodName)) ∈ lw_all := lw_g (lw_at lw_m4 109 rfl) rfl
theorem q919 : (Jvm.Cond.code ({ cls := "VersionSolver", name := "allAssumptions", desc := "()I" } : Jvm.MethodName) prog_1_method_37_code (1 : Nat) (Option.some Jvm.ClassFile.FieldType.int)) ∈ lw_all := lw_g (lw_at lw_m4 110 rfl) rfl
theorem q920 : (Jvm.Cond.methodLink "VersionSolver" (257 : Nat) ({ cls := "VersionSolver$Trace", name := "runs", desc := "(I)LVersionSolver$Trace;" } : Jvm.MethodName)) ∈ lw_all := lw_g (lw_at lw_m4 111 rfl) rfl
theorem q984 : (Jvm.Cond.fieldLinkNest "VersionSolver" (272 : Nat) "VersionSolver$Step" "by" "I" "VersionSolver") ∈ lw_tbl := lw_at lw_m4 175 rfl
theorem q987 : (Jvm.Cond.fieldLinkNest "VersionSolver" (277 : Nat) "VersionSolver$Step" "pack" "I" "VersionSolver") ∈ lw_tbl := lw_at lw_m4 178 rfl
theorem q990 : (Jvm.Cond.fieldLinkNest "VersionSolver" (280 : Nat) "VersionSolver$Step" "out" "I" "VersionSolver") ∈ lw_tbl := lw_at lw_m4 181 rfl
theorem q993 : (Jvm.Cond.fieldLinkNest "VersionSolver" (283 : Nat) "VersionSolver$Step" "rests" "J" "VersionSolver") ∈ lw_tbl := lw_at lw_m4 184 rfl
theorem q1020 : (Jvm.Cond.instanceMethod ({ cls := "VersionSolver", name := "steps", desc := "()I" } : Jvm.MethodName)) ∈ lw_all := lw_g (lw_at lw_m4 211 rfl) rfl
theorem q1021 : (Jvm.Cond.selects "VersionSolver" ({ cls := "VersionSolver", name := "steps", desc := "()I" } : Jvm.MethodName) ({ cls := "VersionSolver", name := "steps", desc := "()I" } : Jvm.MethodName)) ∈ lw_all := lw_g (lw_at lw_m4 212 rfl) rfl
theorem q1022 : (Jvm.Cond.code ({ cls := "VersionSolver", name := "steps", desc := "()I" } : Jvm.MethodName) prog_1_method_40_code (1 : Nat) (Option.some Jvm.ClassFile.FieldType.int)) ∈ lw_all := lw_g (lw_at lw_m4 213 rfl) rfl
theorem q1024 : (Jvm.Cond.instanceMethod ({ cls := "VersionSolver", name := "step", desc := "(II)I" } : Jvm.MethodName)) ∈ lw_all := lw_g (lw_at lw_m4 215 rfl) rfl
theorem q1025 : (Jvm.Cond.selects "VersionSolver" ({ cls := "VersionSolver", name := "step", desc := "(II)I" } : Jvm.MethodName) ({ cls := "VersionSolver", name := "step", desc := "(II)I" } : Jvm.MethodName)) ∈ lw_all := lw_g (lw_at lw_m4 216 rfl) rfl
theorem q1026 : (Jvm.Cond.code ({ cls := "VersionSolver", name := "step", desc := "(II)I" } : Jvm.MethodName) prog_1_method_42_code (5 : Nat) (Option.some Jvm.ClassFile.FieldType.int)) ∈ lw_all := lw_g (lw_at lw_m4 217 rfl) rfl
theorem q1027 : (Jvm.Cond.classLink "VersionSolver" (273 : Nat) "VersionSolver$Step") ∈ lw_all := lw_g (lw_at lw_m4 218 rfl) rfl
theorem q1028 : (Jvm.Cond.methodLink "VersionSolver" (293 : Nat) ({ cls := "VersionSolver", name := "whatOf", desc := "(LVersionSolver$Step;I)I" } : Jvm.MethodName)) ∈ lw_all := lw_g (lw_at lw_m4 219 rfl) rfl
theorem q1029 : (Jvm.Cond.static ({ cls := "VersionSolver", name := "whatOf", desc := "(LVersionSolver$Step;I)I" } : Jvm.MethodName)) ∈ lw_all := lw_g (lw_at lw_m4 220 rfl) rfl
theorem q1030 : (Jvm.Cond.code ({ cls := "VersionSolver", name := "whatOf", desc := "(LVersionSolver$Step;I)I" } : Jvm.MethodName) prog_1_method_41_code (2 : Nat) (Option.some Jvm.ClassFile.FieldType.int)) ∈ lw_all := lw_g (lw_at lw_m4 221 rfl) rfl
theorem q1031 : (Jvm.Cond.methodLink "VersionSolver" (287 : Nat) ({ cls := "java/lang/Long", name := "bitCount", desc := "(J)I" } : Jvm.MethodName)) ∈ lw_all := lw_g (lw_at lw_m4 222 rfl) rfl
theorem q1038 : (Jvm.Cond.instanceMethod ({ cls := "VersionSolver", name := "cause", desc := "(II)I" } : Jvm.MethodName)) ∈ lw_all := lw_g (lw_at lw_m4 229 rfl) rfl
theorem q1039 : (Jvm.Cond.selects "VersionSolver" ({ cls := "VersionSolver", name := "cause", desc := "(II)I" } : Jvm.MethodName) ({ cls := "VersionSolver", name := "cause", desc := "(II)I" } : Jvm.MethodName)) ∈ lw_all := lw_g (lw_at lw_m4 230 rfl) rfl
theorem q1040 : (Jvm.Cond.code ({ cls := "VersionSolver", name := "cause", desc := "(II)I" } : Jvm.MethodName) prog_1_method_43_code (7 : Nat) (Option.some Jvm.ClassFile.FieldType.int)) ∈ lw_all := lw_g (lw_at lw_m4 231 rfl) rfl
theorem q1041 : (Jvm.Cond.methodLink "VersionSolver" (297 : Nat) ({ cls := "VersionSolver$Pack", name := "isState", desc := "(I)Z" } : Jvm.MethodName)) ∈ lw_all := lw_g (lw_at lw_m4 232 rfl) rfl
theorem q1047 : (Jvm.Cond.instanceMethod ({ cls := "VersionSolver", name := "conflict", desc := "()I" } : Jvm.MethodName)) ∈ lw_all := lw_g (lw_at lw_m4 238 rfl) rfl
theorem q1048 : (Jvm.Cond.selects "VersionSolver" ({ cls := "VersionSolver", name := "conflict", desc := "()I" } : Jvm.MethodName) ({ cls := "VersionSolver", name := "conflict", desc := "()I" } : Jvm.MethodName)) ∈ lw_all := lw_g (lw_at lw_m4 239 rfl) rfl
theorem q1049 : (Jvm.Cond.code ({ cls := "VersionSolver", name := "conflict", desc := "()I" } : Jvm.MethodName) prog_1_method_44_code (1 : Nat) (Option.some Jvm.ClassFile.FieldType.int)) ∈ lw_all := lw_g (lw_at lw_m5 0 rfl) rfl
theorem q1051 : (Jvm.Cond.instanceMethod ({ cls := "VersionSolver", name := "proof", desc := "()J" } : Jvm.MethodName)) ∈ lw_all := lw_g (lw_at lw_m5 2 rfl) rfl
theorem q1052 : (Jvm.Cond.selects "VersionSolver" ({ cls := "VersionSolver", name := "proof", desc := "()J" } : Jvm.MethodName) ({ cls := "VersionSolver", name := "proof", desc := "()J" } : Jvm.MethodName)) ∈ lw_all := lw_g (lw_at lw_m5 3 rfl) rfl
theorem q1053 : (Jvm.Cond.code ({ cls := "VersionSolver", name := "proof", desc := "()J" } : Jvm.MethodName) prog_1_method_45_code (1 : Nat) (Option.some Jvm.ClassFile.FieldType.long)) ∈ lw_all := lw_g (lw_at lw_m5 4 rfl) rfl
theorem q1054 : (Jvm.Cond.methodLink "VersionSolver" (303 : Nat) ({ cls := "VersionSolver$Trace", name := "proof", desc := "()J" } : Jvm.MethodName)) ∈ lw_all := lw_g (lw_at lw_m5 5 rfl) rfl
theorem q1075 : (Jvm.Cond.instanceMethod ({ cls := "VersionSolver", name := "isProved", desc := "()Z" } : Jvm.MethodName)) ∈ lw_all := lw_g (lw_at lw_m5 26 rfl) rfl
theorem q1076 : (Jvm.Cond.selects "VersionSolver" ({ cls := "VersionSolver", name := "isProved", desc := "()Z" } : Jvm.MethodName) ({ cls := "VersionSolver", name := "isProved", desc := "()Z" } : Jvm.MethodName)) ∈ lw_all := lw_g (lw_at lw_m5 27 rfl) rfl
theorem q1077 : (Jvm.Cond.code ({ cls := "VersionSolver", name := "isProved", desc := "()Z" } : Jvm.MethodName) prog_1_method_46_code (1 : Nat) (Option.some Jvm.ClassFile.FieldType.boolean)) ∈ lw_all := lw_g (lw_at lw_m5 28 rfl) rfl
theorem q1078 : (Jvm.Cond.methodLink "VersionSolver" (307 : Nat) ({ cls := "VersionSolver$Trace", name := "isProved", desc := "()Z" } : Jvm.MethodName)) ∈ lw_all := lw_g (lw_at lw_m5 29 rfl) rfl
theorem q1097 : (Jvm.Cond.instanceMethod ({ cls := "VersionSolver", name := "assume", desc := "(II)I" } : Jvm.MethodName)) ∈ lw_all := lw_g (lw_at lw_m5 48 rfl) rfl
theorem q1098 : (Jvm.Cond.selects "VersionSolver" ({ cls := "VersionSolver", name := "assume", desc := "(II)I" } : Jvm.MethodName) ({ cls := "VersionSolver", name := "assume", desc := "(II)I" } : Jvm.MethodName)) ∈ lw_all := lw_g (lw_at lw_m5 49 rfl) rfl
theorem q1099 : (Jvm.Cond.code ({ cls := "VersionSolver", name := "assume", desc := "(II)I" } : Jvm.MethodName) prog_1_method_47_code (6 : Nat) (Option.some Jvm.ClassFile.FieldType.int)) ∈ lw_all := lw_g (lw_at lw_m5 50 rfl) rfl
theorem q1100 : (Jvm.Cond.methodLink "VersionSolver" (310 : Nat) ({ cls := "VersionSolver$Trace", name := "isConflict", desc := "()Z" } : Jvm.MethodName)) ∈ lw_all := lw_g (lw_at lw_m5 51 rfl) rfl
theorem q1101 : (Jvm.Cond.methodLink "VersionSolver" (313 : Nat) ({ cls := "VersionSolver$Board", name := "isAssumed", desc := "(I)Z" } : Jvm.MethodName)) ∈ lw_all := lw_g (lw_at lw_m5 52 rfl) rfl
theorem q1106 : (Jvm.Cond.classLink "VersionSolver" (316 : Nat) "VersionSolver$Assumption") ∈ lw_all := lw_g (lw_at lw_m5 57 rfl) rfl
theorem q1108 : (Jvm.Cond.methodLink "VersionSolver" (318 : Nat) ({ cls := "VersionSolver$Assumption", name := "<init>", desc := "(II)V" } : Jvm.MethodName)) ∈ lw_all := lw_g (lw_at lw_m5 59 rfl) rfl
theorem q1117 : (Jvm.Cond.fieldLinkNest "VersionSolver" (323 : Nat) "VersionSolver$Assumption" "pack" "I" "VersionSolver") ∈ lw_tbl := lw_at lw_m5 68 rfl
theorem q1122 : (Jvm.Cond.fieldLinkNest "VersionSolver" (321 : Nat) "VersionSolver$Assumption" "state" "I" "VersionSolver") ∈ lw_tbl := lw_at lw_m5 73 rfl
theorem q1128 : (Jvm.Cond.methodLink "VersionSolver" (319 : Nat) ({ cls := "VersionSolver", name := "steps", desc := "()I" } : Jvm.MethodName)) ∈ lw_all := lw_g (lw_at lw_m5 79 rfl) rfl
theorem q1130 : (Jvm.Cond.instanceMethod ({ cls := "VersionSolver", name := "retract", desc := "()I" } : Jvm.MethodName)) ∈ lw_all := lw_g (lw_at lw_m5 81 rfl) rfl
theorem q1131 : (Jvm.Cond.selects "VersionSolver" ({ cls := "VersionSolver", name := "retract", desc := "()I" } : Jvm.MethodName) ({ cls := "VersionSolver", name := "retract", desc := "()I" } : Jvm.MethodName)) ∈ lw_all := lw_g (lw_at lw_m5 82 rfl) rfl
theorem q1132 : (Jvm.Cond.code ({ cls := "VersionSolver", name := "retract", desc := "()I" } : Jvm.MethodName) prog_1_method_48_code (2 : Nat) (Option.some Jvm.ClassFile.FieldType.int)) ∈ lw_all := lw_g (lw_at lw_m5 83 rfl) rfl
theorem q1134 : (Jvm.Cond.instanceMethod ({ cls := "VersionSolver", name := "assumption", desc := "(IZ)I" } : Jvm.MethodName)) ∈ lw_all := lw_g (lw_at lw_m5 85 rfl) rfl
theorem q1135 : (Jvm.Cond.selects "VersionSolver" ({ cls := "VersionSolver", name := "assumption", desc := "(IZ)I" } : Jvm.MethodName) ({ cls := "VersionSolver", name := "assumption", desc := "(IZ)I" } : Jvm.MethodName)) ∈ lw_all := lw_g (lw_at lw_m5 86 rfl) rfl
theorem q1136 : (Jvm.Cond.code ({ cls := "VersionSolver", name := "assumption", desc := "(IZ)I" } : Jvm.MethodName) prog_1_method_49_code (4 : Nat) (Option.some Jvm.ClassFile.FieldType.int)) ∈ lw_all := lw_g (lw_at lw_m5 87 rfl) rfl
theorem q1138 : (Jvm.Cond.instanceMethod ({ cls := "VersionSolver", name := "blamed", desc := "()I" } : Jvm.MethodName)) ∈ lw_all := lw_g (lw_at lw_m5 89 rfl) rfl
theorem q1139 : (Jvm.Cond.selects "VersionSolver" ({ cls := "VersionSolver", name := "blamed", desc := "()I" } : Jvm.MethodName) ({ cls := "VersionSolver", name := "blamed", desc := "()I" } : Jvm.MethodName)) ∈ lw_all := lw_g (lw_at lw_m5 90 rfl) rfl
theorem q1140 : (Jvm.Cond.code ({ cls := "VersionSolver", name := "blamed", desc := "()I" } : Jvm.MethodName) prog_1_method_51_code (1 : Nat) (Option.some Jvm.ClassFile.FieldType.int)) ∈ lw_all := lw_g (lw_at lw_m5 91 rfl) rfl
theorem q1141 : (Jvm.Cond.methodLink "VersionSolver" (324 : Nat) ({ cls := "VersionSolver", name := "blames", desc := "()I" } : Jvm.MethodName)) ∈ lw_all := lw_g (lw_at lw_m5 92 rfl) rfl
theorem q1142 : (Jvm.Cond.privateMethod ({ cls := "VersionSolver", name := "blames", desc := "()I" } : Jvm.MethodName)) ∈ lw_tbl := lw_at lw_m5 93 rfl
theorem q1143 : (Jvm.Cond.instanceMethod ({ cls := "VersionSolver", name := "blames", desc := "()I" } : Jvm.MethodName)) ∈ lw_all := lw_g (lw_at lw_m5 94 rfl) rfl
theorem q1144 : (Jvm.Cond.code ({ cls := "VersionSolver", name := "blames", desc := "()I" } : Jvm.MethodName) prog_1_method_50_code (4 : Nat) (Option.some Jvm.ClassFile.FieldType.int)) ∈ lw_all := lw_g (lw_at lw_m5 95 rfl) rfl
theorem q1146 : (Jvm.Cond.instanceMethod ({ cls := "VersionSolver", name := "learn", desc := "()I" } : Jvm.MethodName)) ∈ lw_all := lw_g (lw_at lw_m5 97 rfl) rfl
theorem q1147 : (Jvm.Cond.selects "VersionSolver" ({ cls := "VersionSolver", name := "learn", desc := "()I" } : Jvm.MethodName) ({ cls := "VersionSolver", name := "learn", desc := "()I" } : Jvm.MethodName)) ∈ lw_all := lw_g (lw_at lw_m5 98 rfl) rfl
theorem q1148 : (Jvm.Cond.code ({ cls := "VersionSolver", name := "learn", desc := "()I" } : Jvm.MethodName) prog_1_method_53_code (6 : Nat) (Option.some Jvm.ClassFile.FieldType.int)) ∈ lw_all := lw_g (lw_at lw_m5 99 rfl) rfl
theorem q1149 : (Jvm.Cond.classLink "VersionSolver" (327 : Nat) "VersionSolver$Learned") ∈ lw_all := lw_g (lw_at lw_m5 100 rfl) rfl
theorem q1150 : (Jvm.Cond.methodLink "VersionSolver" (329 : Nat) ({ cls := "VersionSolver$Learned", name := "<init>", desc := "([I)V" } : Jvm.MethodName)) ∈ lw_all := lw_g (lw_at lw_m5 101 rfl) rfl
theorem q1168 : (Jvm.Cond.methodLink "VersionSolver" (332 : Nat) ({ cls := "VersionSolver", name := "kept", desc := "(I)I" } : Jvm.MethodName)) ∈ lw_all := lw_g (lw_at lw_m5 119 rfl) rfl
theorem q1169 : (Jvm.Cond.static ({ cls := "VersionSolver", name := "kept", desc := "(I)I" } : Jvm.MethodName)) ∈ lw_all := lw_g (lw_at lw_m5 120 rfl) rfl
theorem q1170 : (Jvm.Cond.code ({ cls := "VersionSolver", name := "kept", desc := "(I)I" } : Jvm.MethodName) prog_1_method_52_code (4 : Nat) (Option.some Jvm.ClassFile.FieldType.int)) ∈ lw_all := lw_g (lw_at lw_m5 121 rfl) rfl
theorem q1172 : (Jvm.Cond.instanceMethod ({ cls := "VersionSolver", name := "solutions", desc := "()I" } : Jvm.MethodName)) ∈ lw_all := lw_g (lw_at lw_m5 123 rfl) rfl
theorem q1173 : (Jvm.Cond.selects "VersionSolver" ({ cls := "VersionSolver", name := "solutions", desc := "()I" } : Jvm.MethodName) ({ cls := "VersionSolver", name := "solutions", desc := "()I" } : Jvm.MethodName)) ∈ lw_all := lw_g (lw_at lw_m5 124 rfl) rfl
theorem q1174 : (Jvm.Cond.code ({ cls := "VersionSolver", name := "solutions", desc := "()I" } : Jvm.MethodName) prog_1_method_54_code (1 : Nat) (Option.some Jvm.ClassFile.FieldType.int)) ∈ lw_all := lw_g (lw_at lw_m5 125 rfl) rfl
theorem q1175 : (Jvm.Cond.classLink "VersionSolver" (335 : Nat) "VersionSolver$Counting") ∈ lw_all := lw_g (lw_at lw_m5 126 rfl) rfl
theorem q1177 : (Jvm.Cond.methodLink "VersionSolver" (337 : Nat) ({ cls := "VersionSolver", name := "allRules", desc := "()I" } : Jvm.MethodName)) ∈ lw_all := lw_g (lw_at lw_m5 128 rfl) rfl
theorem q1178 : (Jvm.Cond.privateMethod ({ cls := "VersionSolver", name := "allRules", desc := "()I" } : Jvm.MethodName)) ∈ lw_tbl := lw_at lw_m5 129 rfl
theorem q1179 : (Jvm.Cond.instanceMethod ({ cls := "VersionSolver", name := "allRules", desc := "()I" } : Jvm.MethodName)) ∈ lw_all := lw_g (lw_at lw_m5 130 rfl) rfl
theorem q1180 : (Jvm.Cond.code ({ cls := "VersionSolver", name := "allRules", desc := "()I" } : Jvm.MethodName) prog_1_method_12_code (1 : Nat) (Option.some Jvm.ClassFile.FieldType.int)) ∈ lw_all := lw_g (lw_at lw_m5 131 rfl) rfl
theorem q1181 : (Jvm.Cond.methodLink "VersionSolver" (340 : Nat) ({ cls := "VersionSolver$Counting", name := "<init>", desc := "(LVersionSolver$Board;I)V" } : Jvm.MethodName)) ∈ lw_all := lw_g (lw_at lw_m5 132 rfl) rfl
theorem q1222 : (Jvm.Cond.methodLink "VersionSolver" (341 : Nat) ({ cls := "VersionSolver$Counting", name := "all", desc := "()I" } : Jvm.MethodName)) ∈ lw_all := lw_g (lw_at lw_m5 173 rfl) rfl
theorem q1329 : (Jvm.Cond.instanceMethod ({ cls := "VersionSolver", name := "best", desc := "(I)I" } : Jvm.MethodName)) ∈ lw_all := lw_g (lw_at lw_m6 40 rfl) rfl
theorem q1330 : (Jvm.Cond.selects "VersionSolver" ({ cls := "VersionSolver", name := "best", desc := "(I)I" } : Jvm.MethodName) ({ cls := "VersionSolver", name := "best", desc := "(I)I" } : Jvm.MethodName)) ∈ lw_all := lw_g (lw_at lw_m6 41 rfl) rfl
theorem q1331 : (Jvm.Cond.code ({ cls := "VersionSolver", name := "best", desc := "(I)I" } : Jvm.MethodName) prog_1_method_55_code (3 : Nat) (Option.some Jvm.ClassFile.FieldType.int)) ∈ lw_all := lw_g (lw_at lw_m6 42 rfl) rfl
theorem q1332 : (Jvm.Cond.classLink "VersionSolver" (78 : Nat) "VersionSolver$First") ∈ lw_all := lw_g (lw_at lw_m6 43 rfl) rfl
theorem q1334 : (Jvm.Cond.methodLink "VersionSolver" (80 : Nat) ({ cls := "VersionSolver$First", name := "<init>", desc := "(LVersionSolver$Board;I)V" } : Jvm.MethodName)) ∈ lw_all := lw_g (lw_at lw_m6 45 rfl) rfl
theorem q1344 : (Jvm.Cond.methodLink "VersionSolver" (83 : Nat) ({ cls := "VersionSolver$First", name := "isThere", desc := "()Z" } : Jvm.MethodName)) ∈ lw_all := lw_g (lw_at lw_m6 55 rfl) rfl
theorem q1351 : (Jvm.Cond.methodLink "VersionSolver" (344 : Nat) ({ cls := "VersionSolver$First", name := "stateOf", desc := "(I)I" } : Jvm.MethodName)) ∈ lw_all := lw_g (lw_at lw_m6 62 rfl) rfl
theorem q1356 : (Jvm.Cond.instanceMethod ({ cls := "VersionSolver", name := "hinders", desc := "(I)I" } : Jvm.MethodName)) ∈ lw_all := lw_g (lw_at lw_m6 67 rfl) rfl
theorem q1357 : (Jvm.Cond.selects "VersionSolver" ({ cls := "VersionSolver", name := "hinders", desc := "(I)I" } : Jvm.MethodName) ({ cls := "VersionSolver", name := "hinders", desc := "(I)I" } : Jvm.MethodName)) ∈ lw_all := lw_g (lw_at lw_m6 68 rfl) rfl
theorem q1358 : (Jvm.Cond.code ({ cls := "VersionSolver", name := "hinders", desc := "(I)I" } : Jvm.MethodName) prog_1_method_57_code (2 : Nat) (Option.some Jvm.ClassFile.FieldType.int)) ∈ lw_all := lw_g (lw_at lw_m6 69 rfl) rfl
theorem q1359 : (Jvm.Cond.methodLink "VersionSolver" (348 : Nat) ({ cls := "VersionSolver", name := "areStates", desc := "(I)Z" } : Jvm.MethodName)) ∈ lw_all := lw_g (lw_at lw_m6 70 rfl) rfl
theorem q1360 : (Jvm.Cond.privateMethod ({ cls := "VersionSolver", name := "areStates", desc := "(I)Z" } : Jvm.MethodName)) ∈ lw_tbl := lw_at lw_m6 71 rfl
theorem q1361 : (Jvm.Cond.instanceMethod ({ cls := "VersionSolver", name := "areStates", desc := "(I)Z" } : Jvm.MethodName)) ∈ lw_all := lw_g (lw_at lw_m6 72 rfl) rfl
theorem q1362 : (Jvm.Cond.code ({ cls := "VersionSolver", name := "areStates", desc := "(I)Z" } : Jvm.MethodName) prog_1_method_56_code (3 : Nat) (Option.some Jvm.ClassFile.FieldType.boolean)) ∈ lw_all := lw_g (lw_at lw_m6 73 rfl) rfl
theorem q1363 : (Jvm.Cond.fieldLink "VersionSolver" (345 : Nat) "VersionSolver" "TENS" "[I") ∈ lw_all := lw_g (lw_at lw_m6 74 rfl) rfl
theorem q1364 : (Jvm.Cond.laysStatic "VersionSolver" "TENS" "[I") ∈ lw_tbl := lw_at lw_m6 75 rfl
theorem q1365 : (Jvm.Cond.classLink "VersionSolver" (351 : Nat) "VersionSolver$Look") ∈ lw_all := lw_g (lw_at lw_m6 76 rfl) rfl
theorem q1367 : (Jvm.Cond.methodLink "VersionSolver" (353 : Nat) ({ cls := "VersionSolver$Look", name := "<init>", desc := "(LVersionSolver;I)V" } : Jvm.MethodName)) ∈ lw_all := lw_g (lw_at lw_m6 78 rfl) rfl
theorem q1383 : (Jvm.Cond.methodLink "VersionSolver" (356 : Nat) ({ cls := "VersionSolver$Look", name := "hinders", desc := "()I" } : Jvm.MethodName)) ∈ lw_all := lw_g (lw_at lw_m6 94 rfl) rfl
theorem q1398 : (Jvm.Cond.instanceMethod ({ cls := "VersionSolver", name := "without", desc := "(I)I" } : Jvm.MethodName)) ∈ lw_all := lw_g (lw_at lw_m6 109 rfl) rfl
theorem q1399 : (Jvm.Cond.selects "VersionSolver" ({ cls := "VersionSolver", name := "without", desc := "(I)I" } : Jvm.MethodName) ({ cls := "VersionSolver", name := "without", desc := "(I)I" } : Jvm.MethodName)) ∈ lw_all := lw_g (lw_at lw_m6 110 rfl) rfl
theorem q1400 : (Jvm.Cond.code ({ cls := "VersionSolver", name := "without", desc := "(I)I" } : Jvm.MethodName) prog_1_method_58_code (2 : Nat) (Option.some Jvm.ClassFile.FieldType.int)) ∈ lw_all := lw_g (lw_at lw_m6 111 rfl) rfl
theorem q1402 : (Jvm.Cond.instanceMethod ({ cls := "VersionSolver", name := "core", desc := "()I" } : Jvm.MethodName)) ∈ lw_all := lw_g (lw_at lw_m6 113 rfl) rfl
theorem q1403 : (Jvm.Cond.selects "VersionSolver" ({ cls := "VersionSolver", name := "core", desc := "()I" } : Jvm.MethodName) ({ cls := "VersionSolver", name := "core", desc := "()I" } : Jvm.MethodName)) ∈ lw_all := lw_g (lw_at lw_m6 114 rfl) rfl
theorem q1404 : (Jvm.Cond.code ({ cls := "VersionSolver", name := "core", desc := "()I" } : Jvm.MethodName) prog_1_method_59_code (3 : Nat) (Option.some Jvm.ClassFile.FieldType.int)) ∈ lw_all := lw_g (lw_at lw_m6 115 rfl) rfl
theorem q1405 : (Jvm.Cond.methodLink "VersionSolver" (359 : Nat) ({ cls := "VersionSolver", name := "isSolvable", desc := "(I)Z" } : Jvm.MethodName)) ∈ lw_all := lw_g (lw_at lw_m6 116 rfl) rfl
theorem q1406 : (Jvm.Cond.privateMethod ({ cls := "VersionSolver", name := "isSolvable", desc := "(I)Z" } : Jvm.MethodName)) ∈ lw_tbl := lw_at lw_m6 117 rfl
theorem q1407 : (Jvm.Cond.instanceMethod ({ cls := "VersionSolver", name := "isSolvable", desc := "(I)Z" } : Jvm.MethodName)) ∈ lw_all := lw_g (lw_at lw_m6 118 rfl) rfl
theorem q1408 : (Jvm.Cond.code ({ cls := "VersionSolver", name := "isSolvable", desc := "(I)Z" } : Jvm.MethodName) prog_1_method_13_code (2 : Nat) (Option.some Jvm.ClassFile.FieldType.boolean)) ∈ lw_all := lw_g (lw_at lw_m6 119 rfl) rfl
theorem q1409 : (Jvm.Cond.methodLink "VersionSolver" (362 : Nat) ({ cls := "VersionSolver$Rule", name := "kind", desc := "()I" } : Jvm.MethodName)) ∈ lw_all := lw_g (lw_at lw_m6 120 rfl) rfl
theorem q1411 : (Jvm.Cond.instanceMethod ({ cls := "VersionSolver", name := "possible", desc := "(I)I" } : Jvm.MethodName)) ∈ lw_all := lw_g (lw_at lw_m6 122 rfl) rfl
theorem q1412 : (Jvm.Cond.selects "VersionSolver" ({ cls := "VersionSolver", name := "possible", desc := "(I)I" } : Jvm.MethodName) ({ cls := "VersionSolver", name := "possible", desc := "(I)I" } : Jvm.MethodName)) ∈ lw_all := lw_g (lw_at lw_m6 123 rfl) rfl
theorem q1413 : (Jvm.Cond.code ({ cls := "VersionSolver", name := "possible", desc := "(I)I" } : Jvm.MethodName) prog_1_method_60_code (2 : Nat) (Option.some Jvm.ClassFile.FieldType.int)) ∈ lw_all := lw_g (lw_at lw_m6 124 rfl) rfl
theorem q1414 : (Jvm.Cond.classLink "VersionSolver" (365 : Nat) "VersionSolver$Gathering") ∈ lw_all := lw_g (lw_at lw_m6 125 rfl) rfl
theorem q1416 : (Jvm.Cond.methodLink "VersionSolver" (367 : Nat) ({ cls := "VersionSolver$Gathering", name := "<init>", desc := "(LVersionSolver$Board;II)V" } : Jvm.MethodName)) ∈ lw_all := lw_g (lw_at lw_m6 127 rfl) rfl
theorem q1432 : (Jvm.Cond.methodLink "VersionSolver" (370 : Nat) ({ cls := "VersionSolver$Gathering", name := "all", desc := "()I" } : Jvm.MethodName)) ∈ lw_all := lw_g (lw_at lw_m6 143 rfl) rfl
theorem q1440 : (Jvm.Cond.instanceMethod ({ cls := "VersionSolver", name := "append", desc := "(C)I" } : Jvm.MethodName)) ∈ lw_all := lw_g (lw_at lw_m6 151 rfl) rfl
theorem q1441 : (Jvm.Cond.selects "VersionSolver" ({ cls := "VersionSolver", name := "append", desc := "(C)I" } : Jvm.MethodName) ({ cls := "VersionSolver", name := "append", desc := "(C)I" } : Jvm.MethodName)) ∈ lw_all := lw_g (lw_at lw_m6 152 rfl) rfl
theorem q1442 : (Jvm.Cond.code ({ cls := "VersionSolver", name := "append", desc := "(C)I" } : Jvm.MethodName) prog_1_method_61_code (3 : Nat) (Option.some Jvm.ClassFile.FieldType.int)) ∈ lw_all := lw_g (lw_at lw_m6 153 rfl) rfl
theorem q1443 : (Jvm.Cond.methodLink "VersionSolver" (371 : Nat) ({ cls := "java/lang/StringBuilder", name := "length", desc := "()I" } : Jvm.MethodName)) ∈ lw_all := lw_g (lw_at lw_m6 154 rfl) rfl
theorem q1450 : (Jvm.Cond.methodLink "VersionSolver" (374 : Nat) ({ cls := "java/lang/StringBuilder", name := "append", desc := "(C)Ljava/lang/StringBuilder;" } : Jvm.MethodName)) ∈ lw_all := lw_g (lw_at lw_m6 161 rfl) rfl
theorem q1527 : (Jvm.Cond.instanceMethod ({ cls := "VersionSolver", name := "read", desc := "()I" } : Jvm.MethodName)) ∈ lw_all := lw_g (lw_at lw_m6 238 rfl) rfl
theorem q1528 : (Jvm.Cond.selects "VersionSolver" ({ cls := "VersionSolver", name := "read", desc := "()I" } : Jvm.MethodName) ({ cls := "VersionSolver", name := "read", desc := "()I" } : Jvm.MethodName)) ∈ lw_all := lw_g (lw_at lw_m6 239 rfl) rfl
theorem q1529 : (Jvm.Cond.codeWith ({ cls := "VersionSolver", name := "read", desc := "()I" } : Jvm.MethodName) prog_1_method_63_code (5 : Nat) (Option.some Jvm.ClassFile.FieldType.int) [((8 : Nat), (62 : Nat), (72 : Nat), (411 : Nat)), ((8 : Nat), (62 : Nat), (94 : Nat), (392 : Nat)), ((8 : Nat), (62 : Nat), (121 : Nat), (0 : Nat)), ((72 : Nat), (84 : Nat), (121 : Nat), (0 : Nat)), ((94 : Nat), (111 : Nat), (121 : Nat), (0 : Nat)), ((121 : Nat), (123 : Nat), (121 : Nat), (0 : Nat))]) ∈ lw_all := lw_g (lw_at lw_m7 0 rfl) rfl
theorem q1530 : (Jvm.Cond.classLink "VersionSolver" (411 : Nat) "VersionSolver$Wrong") ∈ lw_all := lw_g (lw_at lw_m7 1 rfl) rfl
theorem q1531 : (Jvm.Cond.classLink "VersionSolver" (392 : Nat) "VersionSolver$Failed") ∈ lw_all := lw_g (lw_at lw_m7 2 rfl) rfl
theorem q1532 : (Jvm.Cond.classLink "VersionSolver" (395 : Nat) "VersionSolver$Reader") ∈ lw_all := lw_g (lw_at lw_m7 3 rfl) rfl
theorem q1534 : (Jvm.Cond.methodLink "VersionSolver" (397 : Nat) ({ cls := "VersionSolver$Reader", name := "<init>", desc := "(Ljava/lang/CharSequence;)V" } : Jvm.MethodName)) ∈ lw_all := lw_g (lw_at lw_m7 5 rfl) rfl
theorem q1545 : (Jvm.Cond.methodLink "VersionSolver" (400 : Nat) ({ cls := "VersionSolver$Reader", name := "items", desc := "()Ljava/util/ArrayList;" } : Jvm.MethodName)) ∈ lw_all := lw_g (lw_at lw_m7 16 rfl) rfl
theorem q1665 : (Jvm.Cond.fieldLinkNest "VersionSolver" (413 : Nat) "VersionSolver$Wrong" "position" "I" "VersionSolver") ∈ lw_tbl := lw_at lw_m7 136 rfl
theorem q1748 : (Jvm.Cond.fieldLinkNest "VersionSolver" (378 : Nat) "VersionSolver$Item" "kind" "I" "VersionSolver") ∈ lw_tbl := lw_at lw_m7 219 rfl
theorem q1750 : (Jvm.Cond.fieldLinkNest "VersionSolver" (382 : Nat) "VersionSolver$Item" "pack" "I" "VersionSolver") ∈ lw_tbl := lw_at lw_m7 221 rfl
theorem q1752 : (Jvm.Cond.fieldLinkNest "VersionSolver" (386 : Nat) "VersionSolver$Item" "version" "I" "VersionSolver") ∈ lw_tbl := lw_at lw_m7 223 rfl
theorem q1754 : (Jvm.Cond.fieldLinkNest "VersionSolver" (389 : Nat) "VersionSolver$Item" "other" "I" "VersionSolver") ∈ lw_tbl := lw_at lw_m7 225 rfl
theorem q1756 : (Jvm.Cond.fieldLinkNest "VersionSolver" (383 : Nat) "VersionSolver$Item" "range" "I" "VersionSolver") ∈ lw_tbl := lw_at lw_m7 227 rfl
theorem q1769 : (Jvm.Cond.classLink "VersionSolver" (379 : Nat) "VersionSolver$Item") ∈ lw_all := lw_g (lw_at lw_m8 0 rfl) rfl
theorem q1770 : (Jvm.Cond.methodLink "VersionSolver" (404 : Nat) ({ cls := "VersionSolver", name := "does", desc := "(LVersionSolver$Item;I)V" } : Jvm.MethodName)) ∈ lw_all := lw_g (lw_at lw_m8 1 rfl) rfl
theorem q1771 : (Jvm.Cond.privateMethod ({ cls := "VersionSolver", name := "does", desc := "(LVersionSolver$Item;I)V" } : Jvm.MethodName)) ∈ lw_tbl := lw_at lw_m8 2 rfl
theorem q1772 : (Jvm.Cond.instanceMethod ({ cls := "VersionSolver", name := "does", desc := "(LVersionSolver$Item;I)V" } : Jvm.MethodName)) ∈ lw_all := lw_g (lw_at lw_m8 3 rfl) rfl
theorem q1773 : (Jvm.Cond.code ({ cls := "VersionSolver", name := "does", desc := "(LVersionSolver$Item;I)V" } : Jvm.MethodName) prog_1_method_62_code (5 : Nat) (Option.none : Option Jvm.ClassFile.FieldType)) ∈ lw_all := lw_g (lw_at lw_m8 4 rfl) rfl
theorem q1782 : (Jvm.Cond.methodLink "VersionSolver" (394 : Nat) ({ cls := "VersionSolver$Failed", name := "<init>", desc := "(I)V" } : Jvm.MethodName)) ∈ lw_all := lw_g (lw_at lw_m8 13 rfl) rfl
theorem q1787 : (Jvm.Cond.fieldLinkNest "VersionSolver" (416 : Nat) "VersionSolver$Failed" "item" "I" "VersionSolver") ∈ lw_tbl := lw_at lw_m8 18 rfl
theorem q1792 : (Jvm.Cond.methodLink "VersionSolver" (408 : Nat) ({ cls := "java/lang/StringBuilder", name := "setLength", desc := "(I)V" } : Jvm.MethodName)) ∈ lw_all := lw_g (lw_at lw_m8 23 rfl) rfl
theorem q1813 : (Jvm.Cond.instanceMethod ({ cls := "VersionSolver", name := "fault", desc := "(Z)I" } : Jvm.MethodName)) ∈ lw_all := lw_g (lw_at lw_m8 44 rfl) rfl
theorem q1814 : (Jvm.Cond.selects "VersionSolver" ({ cls := "VersionSolver", name := "fault", desc := "(Z)I" } : Jvm.MethodName) ({ cls := "VersionSolver", name := "fault", desc := "(Z)I" } : Jvm.MethodName)) ∈ lw_all := lw_g (lw_at lw_m8 45 rfl) rfl
theorem q1815 : (Jvm.Cond.code ({ cls := "VersionSolver", name := "fault", desc := "(Z)I" } : Jvm.MethodName) prog_1_method_64_code (3 : Nat) (Option.some Jvm.ClassFile.FieldType.int)) ∈ lw_all := lw_g (lw_at lw_m8 46 rfl) rfl
theorem q1817 : (Jvm.Cond.instanceMethod ({ cls := "VersionSolver", name := "report", desc := "(I)I" } : Jvm.MethodName)) ∈ lw_all := lw_g (lw_at lw_m8 48 rfl) rfl
theorem q1818 : (Jvm.Cond.selects "VersionSolver" ({ cls := "VersionSolver", name := "report", desc := "(I)I" } : Jvm.MethodName) ({ cls := "VersionSolver", name := "report", desc := "(I)I" } : Jvm.MethodName)) ∈ lw_all := lw_g (lw_at lw_m8 49 rfl) rfl
theorem q1819 : (Jvm.Cond.code ({ cls := "VersionSolver", name := "report", desc := "(I)I" } : Jvm.MethodName) prog_1_method_66_code (6 : Nat) (Option.some Jvm.ClassFile.FieldType.int)) ∈ lw_all := lw_g (lw_at lw_m8 50 rfl) rfl
theorem q1820 : (Jvm.Cond.methodLink "VersionSolver" (425 : Nat) ({ cls := "java/lang/StringBuilder", name := "append", desc := "(I)Ljava/lang/StringBuilder;" } : Jvm.MethodName)) ∈ lw_all := lw_g (lw_at lw_m8 51 rfl) rfl
theorem q1845 : (Jvm.Cond.stringRef "VersionSolver" (428 : Nat) " by ") ∈ lw_tbl := lw_at lw_m8 76 rfl
theorem q1846 : (Jvm.Cond.methodLink "VersionSolver" (430 : Nat) ({ cls := "java/lang/StringBuilder", name := "append", desc := "(Ljava/lang/String;)Ljava/lang/StringBuilder;" } : Jvm.MethodName)) ∈ lw_all := lw_g (lw_at lw_m8 77 rfl) rfl
theorem q1876 : (Jvm.Cond.stringRef "VersionSolver" (433 : Nat) ": ") ∈ lw_tbl := lw_at lw_m8 107 rfl
theorem q1877 : (Jvm.Cond.stringRef "VersionSolver" (435 : Nat) " loses") ∈ lw_tbl := lw_at lw_m8 108 rfl
theorem q1878 : (Jvm.Cond.methodLink "VersionSolver" (437 : Nat) ({ cls := "VersionSolver", name := "textOf", desc := "(LVersionSolver$Pack;I)Ljava/lang/String;" } : Jvm.MethodName)) ∈ lw_all := lw_g (lw_at lw_m8 109 rfl) rfl
theorem q1879 : (Jvm.Cond.privateMethod ({ cls := "VersionSolver", name := "textOf", desc := "(LVersionSolver$Pack;I)Ljava/lang/String;" } : Jvm.MethodName)) ∈ lw_tbl := lw_at lw_m8 110 rfl
theorem q1880 : (Jvm.Cond.instanceMethod ({ cls := "VersionSolver", name := "textOf", desc := "(LVersionSolver$Pack;I)Ljava/lang/String;" } : Jvm.MethodName)) ∈ lw_all := lw_g (lw_at lw_m8 111 rfl) rfl
theorem q1881 : (Jvm.Cond.code ({ cls := "VersionSolver", name := "textOf", desc := "(LVersionSolver$Pack;I)Ljava/lang/String;" } : Jvm.MethodName) prog_1_method_65_code (3 : Nat) (Option.some (Jvm.ClassFile.FieldType.object "java/lang/String"))) ∈ lw_all := lw_g (lw_at lw_m8 112 rfl) rfl
theorem q1882 : (Jvm.Cond.stringRef "VersionSolver" (419 : Nat) "none") ∈ lw_tbl := lw_at lw_m8 113 rfl
theorem q1883 : (Jvm.Cond.methodLink "VersionSolver" (421 : Nat) ({ cls := "VersionSolver$Version", name := "text", desc := "()Ljava/lang/String;" } : Jvm.MethodName)) ∈ lw_all := lw_g (lw_at lw_m8 114 rfl) rfl
theorem q1941 : (Jvm.Cond.methodLink "VersionSolver" (441 : Nat) ({ cls := "java/lang/StringBuilder", name := "toString", desc := "()Ljava/lang/String;" } : Jvm.MethodName)) ∈ lw_all := lw_g (lw_at lw_m8 172 rfl) rfl
theorem q1942 : (Jvm.Cond.methodLink "VersionSolver" (444 : Nat) ({ cls := "java/lang/String", name := "length", desc := "()I" } : Jvm.MethodName)) ∈ lw_all := lw_g (lw_at lw_m8 173 rfl) rfl
theorem q1944 : (Jvm.Cond.instanceMethod ({ cls := "VersionSolver", name := "character", desc := "(I)I" } : Jvm.MethodName)) ∈ lw_all := lw_g (lw_at lw_m8 175 rfl) rfl
theorem q1945 : (Jvm.Cond.selects "VersionSolver" ({ cls := "VersionSolver", name := "character", desc := "(I)I" } : Jvm.MethodName) ({ cls := "VersionSolver", name := "character", desc := "(I)I" } : Jvm.MethodName)) ∈ lw_all := lw_g (lw_at lw_m8 176 rfl) rfl
theorem q1946 : (Jvm.Cond.code ({ cls := "VersionSolver", name := "character", desc := "(I)I" } : Jvm.MethodName) prog_1_method_67_code (2 : Nat) (Option.some Jvm.ClassFile.FieldType.int)) ∈ lw_all := lw_g (lw_at lw_m8 177 rfl) rfl
theorem q1947 : (Jvm.Cond.methodLink "VersionSolver" (447 : Nat) ({ cls := "java/lang/String", name := "charAt", desc := "(I)C" } : Jvm.MethodName)) ∈ lw_all := lw_g (lw_at lw_m8 178 rfl) rfl
theorem q1949 : (Jvm.Cond.instanceMethod ({ cls := "VersionSolver", name := "account", desc := "(I)I" } : Jvm.MethodName)) ∈ lw_all := lw_g (lw_at lw_m8 180 rfl) rfl
theorem q1950 : (Jvm.Cond.selects "VersionSolver" ({ cls := "VersionSolver", name := "account", desc := "(I)I" } : Jvm.MethodName) ({ cls := "VersionSolver", name := "account", desc := "(I)I" } : Jvm.MethodName)) ∈ lw_all := lw_g (lw_at lw_m8 181 rfl) rfl
theorem q1951 : (Jvm.Cond.code ({ cls := "VersionSolver", name := "account", desc := "(I)I" } : Jvm.MethodName) prog_1_method_71_code (2 : Nat) (Option.some Jvm.ClassFile.FieldType.int)) ∈ lw_all := lw_g (lw_at lw_m8 182 rfl) rfl
theorem q1952 : (Jvm.Cond.methodLink "VersionSolver" (454 : Nat) ({ cls := "VersionSolver", name := "inPacks", desc := "(Z)I" } : Jvm.MethodName)) ∈ lw_all := lw_g (lw_at lw_m8 183 rfl) rfl
theorem q1953 : (Jvm.Cond.privateMethod ({ cls := "VersionSolver", name := "inPacks", desc := "(Z)I" } : Jvm.MethodName)) ∈ lw_tbl := lw_at lw_m8 184 rfl
theorem q1954 : (Jvm.Cond.instanceMethod ({ cls := "VersionSolver", name := "inPacks", desc := "(Z)I" } : Jvm.MethodName)) ∈ lw_all := lw_g (lw_at lw_m8 185 rfl) rfl
theorem q1955 : (Jvm.Cond.code ({ cls := "VersionSolver", name := "inPacks", desc := "(Z)I" } : Jvm.MethodName) prog_1_method_69_code (5 : Nat) (Option.some Jvm.ClassFile.FieldType.int)) ∈ lw_all := lw_g (lw_at lw_m8 186 rfl) rfl
theorem q1956 : (Jvm.Cond.methodLink "VersionSolver" (457 : Nat) ({ cls := "VersionSolver", name := "learnedRules", desc := "()I" } : Jvm.MethodName)) ∈ lw_all := lw_g (lw_at lw_m8 187 rfl) rfl
theorem q1957 : (Jvm.Cond.privateMethod ({ cls := "VersionSolver", name := "learnedRules", desc := "()I" } : Jvm.MethodName)) ∈ lw_tbl := lw_at lw_m8 188 rfl
theorem q1958 : (Jvm.Cond.instanceMethod ({ cls := "VersionSolver", name := "learnedRules", desc := "()I" } : Jvm.MethodName)) ∈ lw_all := lw_g (lw_at lw_m8 189 rfl) rfl
theorem q1959 : (Jvm.Cond.code ({ cls := "VersionSolver", name := "learnedRules", desc := "()I" } : Jvm.MethodName) prog_1_method_70_code (4 : Nat) (Option.some Jvm.ClassFile.FieldType.int)) ∈ lw_all := lw_g (lw_at lw_m8 190 rfl) rfl
theorem q1960 : (Jvm.Cond.methodLink "VersionSolver" (460 : Nat) ({ cls := "VersionSolver", name := "allLeft", desc := "()I" } : Jvm.MethodName)) ∈ lw_all := lw_g (lw_at lw_m8 191 rfl) rfl
theorem q1961 : (Jvm.Cond.privateMethod ({ cls := "VersionSolver", name := "allLeft", desc := "()I" } : Jvm.MethodName)) ∈ lw_tbl := lw_at lw_m8 192 rfl
theorem q1962 : (Jvm.Cond.instanceMethod ({ cls := "VersionSolver", name := "allLeft", desc := "()I" } : Jvm.MethodName)) ∈ lw_all := lw_g (lw_at lw_m8 193 rfl) rfl
theorem q1963 : (Jvm.Cond.code ({ cls := "VersionSolver", name := "allLeft", desc := "()I" } : Jvm.MethodName) prog_1_method_68_code (7 : Nat) (Option.some Jvm.ClassFile.FieldType.int)) ∈ lw_all := lw_g (lw_at lw_m8 194 rfl) rfl
theorem q1964 : (Jvm.Cond.methodLink "VersionSolver" (451 : Nat) ({ cls := "VersionSolver", name := "many", desc := "(I)I" } : Jvm.MethodName)) ∈ lw_all := lw_g (lw_at lw_m8 195 rfl) rfl
theorem q1965 : (Jvm.Cond.methodLink "VersionSolver" (463 : Nat) ({ cls := "VersionSolver", name := "proof", desc := "()J" } : Jvm.MethodName)) ∈ lw_all := lw_g (lw_at lw_m8 196 rfl) rfl
theorem q1967 : (Jvm.Cond.instanceMethod ({ cls := "VersionSolver", name := "meanStates", desc := "()D" } : Jvm.MethodName)) ∈ lw_all := lw_g (lw_at lw_m8 198 rfl) rfl
theorem q1968 : (Jvm.Cond.selects "VersionSolver" ({ cls := "VersionSolver", name := "meanStates", desc := "()D" } : Jvm.MethodName) ({ cls := "VersionSolver", name := "meanStates", desc := "()D" } : Jvm.MethodName)) ∈ lw_all := lw_g (lw_at lw_m8 199 rfl) rfl
theorem q1969 : (Jvm.Cond.code ({ cls := "VersionSolver", name := "meanStates", desc := "()D" } : Jvm.MethodName) prog_1_method_72_code (1 : Nat) (Option.some Jvm.ClassFile.FieldType.double)) ∈ lw_all := lw_g (lw_at lw_m8 200 rfl) rfl
theorem q1971 : (Jvm.Cond.instanceMethod ({ cls := "VersionSolver", name := "undo", desc := "()I" } : Jvm.MethodName)) ∈ lw_all := lw_g (lw_at lw_m8 202 rfl) rfl
theorem q1972 : (Jvm.Cond.selects "VersionSolver" ({ cls := "VersionSolver", name := "undo", desc := "()I" } : Jvm.MethodName) ({ cls := "VersionSolver", name := "undo", desc := "()I" } : Jvm.MethodName)) ∈ lw_all := lw_g (lw_at lw_m8 203 rfl) rfl
theorem q1973 : (Jvm.Cond.code ({ cls := "VersionSolver", name := "undo", desc := "()I" } : Jvm.MethodName) prog_1_method_73_code (1 : Nat) (Option.some Jvm.ClassFile.FieldType.int)) ∈ lw_all := lw_g (lw_at lw_m8 204 rfl) rfl
theorem q1974 : (Jvm.Cond.methodLink "VersionSolver" (464 : Nat) ({ cls := "java/util/ArrayDeque", name := "isEmpty", desc := "()Z" } : Jvm.MethodName)) ∈ lw_all := lw_g (lw_at lw_m8 205 rfl) rfl
theorem q1978 : (Jvm.Cond.methodLink "VersionSolver" (465 : Nat) ({ cls := "java/util/ArrayDeque", name := "removeLast", desc := "()Ljava/lang/Object;" } : Jvm.MethodName)) ∈ lw_all := lw_g (lw_at lw_m8 209 rfl) rfl
theorem q1990 : (Jvm.Cond.instanceMethod ({ cls := "VersionSolver", name := "save", desc := "()I" } : Jvm.MethodName)) ∈ lw_all := lw_g (lw_at lw_m8 221 rfl) rfl
theorem q1991 : (Jvm.Cond.selects "VersionSolver" ({ cls := "VersionSolver", name := "save", desc := "()I" } : Jvm.MethodName) ({ cls := "VersionSolver", name := "save", desc := "()I" } : Jvm.MethodName)) ∈ lw_all := lw_g (lw_at lw_m8 222 rfl) rfl
theorem q1992 : (Jvm.Cond.code ({ cls := "VersionSolver", name := "save", desc := "()I" } : Jvm.MethodName) prog_1_method_74_code (1 : Nat) (Option.some Jvm.ClassFile.FieldType.int)) ∈ lw_all := lw_g (lw_at lw_m8 223 rfl) rfl
theorem q1994 : (Jvm.Cond.instanceMethod ({ cls := "VersionSolver", name := "restore", desc := "()I" } : Jvm.MethodName)) ∈ lw_all := lw_g (lw_at lw_m8 225 rfl) rfl
theorem q1995 : (Jvm.Cond.selects "VersionSolver" ({ cls := "VersionSolver", name := "restore", desc := "()I" } : Jvm.MethodName) ({ cls := "VersionSolver", name := "restore", desc := "()I" } : Jvm.MethodName)) ∈ lw_all := lw_g (lw_at lw_m8 226 rfl) rfl
theorem q1996 : (Jvm.Cond.code ({ cls := "VersionSolver", name := "restore", desc := "()I" } : Jvm.MethodName) prog_1_method_75_code (1 : Nat) (Option.some Jvm.ClassFile.FieldType.int)) ∈ lw_all := lw_g (lw_at lw_m8 227 rfl) rfl
theorem q1997 : (Jvm.Cond.methodLink "VersionSolver" (471 : Nat) ({ cls := "java/util/ArrayDeque", name := "clear", desc := "()V" } : Jvm.MethodName)) ∈ lw_all := lw_g (lw_at lw_m8 228 rfl) rfl
theorem q2502 : (Jvm.Cond.castable "VersionSolver" "java/lang/Object") ∈ lw_tbl := lw_at lw_m11 13 rfl
theorem in_X0 : ∀ w ∈ wsX00, w ∈ lw_all := lw_in wsX00 [264, 266, 268, 270, 272, 274, 276] (by decide +kernel) (by decide +kernel)
