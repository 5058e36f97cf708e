/-! VersionSolverModel -/
set_option maxRecDepth 100000
def RX2 : String := "VersionSolverModel"
def TX2 : u_T := fun k => match k with
  | 0 => ("VersionSolverModel", "s", "[I", true)
  | 1 => ("VersionSolverModel", "saved", "[I", true)
  | 2 => ("VersionSolverModel", "frame", "[I", true)
  | 3 => ("VersionSolverModel", "history", "[I", true)
  | 4 => ("VersionSolverModel", "kept", "I", false)
  | 5 => ("VersionSolverModel", "hasSaved", "Z", false)
  | 6 => ("VersionSolverModel", "text", "[I", true)
  | 7 => ("VersionSolverModel", "length", "I", false)
  | 8 => ("VersionSolverModel", "errorAt", "I", false)
  | 9 => ("VersionSolverModel", "itemAt", "I", false)
  | 10 => ("VersionSolverModel", "reported", "[I", true)
  | 11 => ("VersionSolverModel", "written", "I", false)
  | 12 => ("VersionSolverModel", "left", "[I", true)
  | 13 => ("VersionSolverModel", "by", "[I", true)
  | 14 => ("VersionSolverModel", "ofPack", "[I", true)
  | 15 => ("VersionSolverModel", "out", "[I", true)
  | 16 => ("VersionSolverModel", "steps", "I", false)
  | 17 => ("VersionSolverModel", "against", "I", false)
  | 18 => ("VersionSolverModel", "chosen", "[I", true)
  | 19 => ("VersionSolverModel", "bestStates", "[I", true)
  | 20 => ("VersionSolverModel", "possibles", "[I", true)
  | 21 => ("VersionSolverModel", "found", "I", false)
  | 22 => ("VersionSolverModel", "spot", "I", false)
  | 23 => ("VersionSolverModel", "end", "I", false)
  | 24 => ("VersionSolverModel", "isRight", "Z", false)
  | 25 => ("VersionSolverModel", "items", "[I", true)
  | _ => ("VersionSolverModel", "many", "I", false)
def tyX2 : Nat → FieldType := fun k => match k with
  | 0 => .array .int
  | 1 => .array .int
  | 2 => .array .int
  | 3 => .array .int
  | 4 => .int
  | 5 => .boolean
  | 6 => .array .int
  | 7 => .int
  | 8 => .int
  | 9 => .int
  | 10 => .array .int
  | 11 => .int
  | 12 => .array .int
  | 13 => .array .int
  | 14 => .array .int
  | 15 => .array .int
  | 16 => .int
  | 17 => .int
  | 18 => .array .int
  | 19 => .array .int
  | 20 => .array .int
  | 21 => .int
  | 22 => .int
  | 23 => .int
  | 24 => .boolean
  | 25 => .array .int
  | _ => .int
abbrev wsX20 : List Cond := u_ws RX2 TX2 27
set_option maxRecDepth 100000 in
theorem nmX2 : ∀ a, a < 27 → ∀ b, b < 27 → a ≠ b → (TX2 a).2.1 ≠ (TX2 b).2.1 := by decide +kernel
set_option maxRecDepth 100000 in
theorem tyX2_ok : ∀ k, k < 27 → parseFieldDescriptor (TX2 k).2.2.1 = some (tyX2 k) := by decide +kernel
abbrev cX2_init : ByteArray := prog_24_method_1_code
def yX2_init : MethodName := ⟨RX2, "<init>", "()V"⟩
def dkwX2_init_5 : List UInt8 := [188, 10, 181, 0, 53, 42, 17, 0, 155, 188, 10, 181, 0, 56, 177]
abbrev dktX2_init_5 : List UInt8 := dkwX2_init_5 ++ []
def dkwX2_init_4 : List UInt8 := [188, 10, 181, 0, 44, 42, 16, 6, 188, 10, 181, 0, 47, 42, 16, 6, 188, 10, 181, 0, 50, 42, 16, 6]
abbrev dktX2_init_4 : List UInt8 := dkwX2_init_4 ++ dktX2_init_5
def dkwX2_init_3 : List UInt8 := [188, 10, 181, 0, 35, 42, 16, 40, 188, 10, 181, 0, 38, 42, 16, 40, 188, 10, 181, 0, 41, 42, 16, 40]
abbrev dktX2_init_3 : List UInt8 := dkwX2_init_3 ++ dktX2_init_4
def dkwX2_init_2 : List UInt8 := [181, 0, 22, 42, 2, 181, 0, 25, 42, 2, 181, 0, 29, 42, 16, 120, 188, 10, 181, 0, 32, 42, 16, 6]
abbrev dktX2_init_2 : List UInt8 := dkwX2_init_2 ++ dktX2_init_3
def dkwX2_init_1 : List UInt8 := [17, 0, 237, 188, 10, 181, 0, 16, 42, 17, 7, 104, 188, 10, 181, 0, 19, 42, 16, 60, 188, 10]
abbrev dktX2_init_1 : List UInt8 := dkwX2_init_1 ++ dktX2_init_2
def dkwX2_init_0 : List UInt8 := [42, 183, 0, 1, 42, 17, 0, 237, 188, 10, 181, 0, 7, 42, 17, 0, 237, 188, 10, 181, 0, 13, 42]
abbrev dktX2_init_0 : List UInt8 := dkwX2_init_0 ++ dktX2_init_1
theorem dksX2_init_0 : cX2_init.data.toList.drop 0 = dktX2_init_0 := by decide +kernel
theorem dksX2_init_1 : cX2_init.data.toList.drop 23 = dktX2_init_1 := dk_seg dksX2_init_0 23 rfl rfl
theorem dksX2_init_2 : cX2_init.data.toList.drop 45 = dktX2_init_2 := dk_seg dksX2_init_1 22 rfl rfl
theorem dksX2_init_3 : cX2_init.data.toList.drop 69 = dktX2_init_3 := dk_seg dksX2_init_2 24 rfl rfl
theorem dksX2_init_4 : cX2_init.data.toList.drop 93 = dktX2_init_4 := dk_seg dksX2_init_3 24 rfl rfl
theorem dksX2_init_5 : cX2_init.data.toList.drop 117 = dktX2_init_5 := dk_seg dksX2_init_4 24 rfl rfl
theorem dX2_init_0 : decode cX2_init 0 = .ok (.aload_n 0, 1) := dk_42 (dk_at dksX2_init_0 0 rfl rfl)
theorem dX2_init_1 : decode cX2_init 1 = .ok (.invokespecial 1, 3) := dk_183 0 1 (dk_at dksX2_init_0 1 rfl rfl)
theorem dX2_init_4 : decode cX2_init 4 = .ok (.aload_n 0, 1) := dk_42 (dk_at dksX2_init_0 4 rfl rfl)
theorem dX2_init_5 : decode cX2_init 5 = .ok (.sipush 237, 3) := dk_17 0 237 (dk_at dksX2_init_0 5 rfl rfl)
theorem dX2_init_8 : decode cX2_init 8 = .ok (.newarray .int, 2) := dk_188_10 (dk_at dksX2_init_0 8 rfl rfl)
theorem dX2_init_10 : decode cX2_init 10 = .ok (.putfield 7, 3) := dk_181 0 7 (dk_at dksX2_init_0 10 rfl rfl)
theorem dX2_init_13 : decode cX2_init 13 = .ok (.aload_n 0, 1) := dk_42 (dk_at dksX2_init_0 13 rfl rfl)
theorem dX2_init_14 : decode cX2_init 14 = .ok (.sipush 237, 3) := dk_17 0 237 (dk_at dksX2_init_0 14 rfl rfl)
theorem dX2_init_17 : decode cX2_init 17 = .ok (.newarray .int, 2) := dk_188_10 (dk_at dksX2_init_0 17 rfl rfl)
theorem dX2_init_19 : decode cX2_init 19 = .ok (.putfield 13, 3) := dk_181 0 13 (dk_at dksX2_init_0 19 rfl rfl)
theorem dX2_init_22 : decode cX2_init 22 = .ok (.aload_n 0, 1) := dk_42 (dk_at dksX2_init_0 22 rfl rfl)
theorem dX2_init_23 : decode cX2_init 23 = .ok (.sipush 237, 3) := dk_17 0 237 (dk_at dksX2_init_1 0 rfl rfl)
theorem dX2_init_26 : decode cX2_init 26 = .ok (.newarray .int, 2) := dk_188_10 (dk_at dksX2_init_1 3 rfl rfl)
theorem dX2_init_28 : decode cX2_init 28 = .ok (.putfield 16, 3) := dk_181 0 16 (dk_at dksX2_init_1 5 rfl rfl)
theorem dX2_init_31 : decode cX2_init 31 = .ok (.aload_n 0, 1) := dk_42 (dk_at dksX2_init_1 8 rfl rfl)
theorem dX2_init_32 : decode cX2_init 32 = .ok (.sipush 1896, 3) := dk_17 7 104 (dk_at dksX2_init_1 9 rfl rfl)
theorem dX2_init_35 : decode cX2_init 35 = .ok (.newarray .int, 2) := dk_188_10 (dk_at dksX2_init_1 12 rfl rfl)
theorem dX2_init_37 : decode cX2_init 37 = .ok (.putfield 19, 3) := dk_181 0 19 (dk_at dksX2_init_1 14 rfl rfl)
theorem dX2_init_40 : decode cX2_init 40 = .ok (.aload_n 0, 1) := dk_42 (dk_at dksX2_init_1 17 rfl rfl)
theorem dX2_init_41 : decode cX2_init 41 = .ok (.bipush 60, 2) := dk_16 60 (dk_at dksX2_init_1 18 rfl rfl)
theorem dX2_init_43 : decode cX2_init 43 = .ok (.newarray .int, 2) := dk_188_10 (dk_at dksX2_init_1 20 rfl rfl)
theorem dX2_init_45 : decode cX2_init 45 = .ok (.putfield 22, 3) := dk_181 0 22 (dk_at dksX2_init_2 0 rfl rfl)
theorem dX2_init_48 : decode cX2_init 48 = .ok (.aload_n 0, 1) := dk_42 (dk_at dksX2_init_2 3 rfl rfl)
theorem dX2_init_49 : decode cX2_init 49 = .ok (.iconst (-1), 1) := dk_2 (dk_at dksX2_init_2 4 rfl rfl)
theorem dX2_init_50 : decode cX2_init 50 = .ok (.putfield 25, 3) := dk_181 0 25 (dk_at dksX2_init_2 5 rfl rfl)
theorem dX2_init_53 : decode cX2_init 53 = .ok (.aload_n 0, 1) := dk_42 (dk_at dksX2_init_2 8 rfl rfl)
theorem dX2_init_54 : decode cX2_init 54 = .ok (.iconst (-1), 1) := dk_2 (dk_at dksX2_init_2 9 rfl rfl)
theorem dX2_init_55 : decode cX2_init 55 = .ok (.putfield 29, 3) := dk_181 0 29 (dk_at dksX2_init_2 10 rfl rfl)
theorem dX2_init_58 : decode cX2_init 58 = .ok (.aload_n 0, 1) := dk_42 (dk_at dksX2_init_2 13 rfl rfl)
theorem dX2_init_59 : decode cX2_init 59 = .ok (.bipush 120, 2) := dk_16 120 (dk_at dksX2_init_2 14 rfl rfl)
theorem dX2_init_61 : decode cX2_init 61 = .ok (.newarray .int, 2) := dk_188_10 (dk_at dksX2_init_2 16 rfl rfl)
theorem dX2_init_63 : decode cX2_init 63 = .ok (.putfield 32, 3) := dk_181 0 32 (dk_at dksX2_init_2 18 rfl rfl)
theorem dX2_init_66 : decode cX2_init 66 = .ok (.aload_n 0, 1) := dk_42 (dk_at dksX2_init_2 21 rfl rfl)
theorem dX2_init_67 : decode cX2_init 67 = .ok (.bipush 6, 2) := dk_16 6 (dk_at dksX2_init_2 22 rfl rfl)
theorem dX2_init_69 : decode cX2_init 69 = .ok (.newarray .int, 2) := dk_188_10 (dk_at dksX2_init_3 0 rfl rfl)
theorem dX2_init_71 : decode cX2_init 71 = .ok (.putfield 35, 3) := dk_181 0 35 (dk_at dksX2_init_3 2 rfl rfl)
theorem dX2_init_74 : decode cX2_init 74 = .ok (.aload_n 0, 1) := dk_42 (dk_at dksX2_init_3 5 rfl rfl)
theorem dX2_init_75 : decode cX2_init 75 = .ok (.bipush 40, 2) := dk_16 40 (dk_at dksX2_init_3 6 rfl rfl)
theorem dX2_init_77 : decode cX2_init 77 = .ok (.newarray .int, 2) := dk_188_10 (dk_at dksX2_init_3 8 rfl rfl)
theorem dX2_init_79 : decode cX2_init 79 = .ok (.putfield 38, 3) := dk_181 0 38 (dk_at dksX2_init_3 10 rfl rfl)
theorem dX2_init_82 : decode cX2_init 82 = .ok (.aload_n 0, 1) := dk_42 (dk_at dksX2_init_3 13 rfl rfl)
theorem dX2_init_83 : decode cX2_init 83 = .ok (.bipush 40, 2) := dk_16 40 (dk_at dksX2_init_3 14 rfl rfl)
theorem dX2_init_85 : decode cX2_init 85 = .ok (.newarray .int, 2) := dk_188_10 (dk_at dksX2_init_3 16 rfl rfl)
theorem dX2_init_87 : decode cX2_init 87 = .ok (.putfield 41, 3) := dk_181 0 41 (dk_at dksX2_init_3 18 rfl rfl)
theorem dX2_init_90 : decode cX2_init 90 = .ok (.aload_n 0, 1) := dk_42 (dk_at dksX2_init_3 21 rfl rfl)
theorem dX2_init_91 : decode cX2_init 91 = .ok (.bipush 40, 2) := dk_16 40 (dk_at dksX2_init_3 22 rfl rfl)
theorem dX2_init_93 : decode cX2_init 93 = .ok (.newarray .int, 2) := dk_188_10 (dk_at dksX2_init_4 0 rfl rfl)
theorem dX2_init_95 : decode cX2_init 95 = .ok (.putfield 44, 3) := dk_181 0 44 (dk_at dksX2_init_4 2 rfl rfl)
theorem dX2_init_98 : decode cX2_init 98 = .ok (.aload_n 0, 1) := dk_42 (dk_at dksX2_init_4 5 rfl rfl)
theorem dX2_init_99 : decode cX2_init 99 = .ok (.bipush 6, 2) := dk_16 6 (dk_at dksX2_init_4 6 rfl rfl)
theorem dX2_init_101 : decode cX2_init 101 = .ok (.newarray .int, 2) := dk_188_10 (dk_at dksX2_init_4 8 rfl rfl)
theorem dX2_init_103 : decode cX2_init 103 = .ok (.putfield 47, 3) := dk_181 0 47 (dk_at dksX2_init_4 10 rfl rfl)
theorem dX2_init_106 : decode cX2_init 106 = .ok (.aload_n 0, 1) := dk_42 (dk_at dksX2_init_4 13 rfl rfl)
theorem dX2_init_107 : decode cX2_init 107 = .ok (.bipush 6, 2) := dk_16 6 (dk_at dksX2_init_4 14 rfl rfl)
theorem dX2_init_109 : decode cX2_init 109 = .ok (.newarray .int, 2) := dk_188_10 (dk_at dksX2_init_4 16 rfl rfl)
theorem dX2_init_111 : decode cX2_init 111 = .ok (.putfield 50, 3) := dk_181 0 50 (dk_at dksX2_init_4 18 rfl rfl)
theorem dX2_init_114 : decode cX2_init 114 = .ok (.aload_n 0, 1) := dk_42 (dk_at dksX2_init_4 21 rfl rfl)
theorem dX2_init_115 : decode cX2_init 115 = .ok (.bipush 6, 2) := dk_16 6 (dk_at dksX2_init_4 22 rfl rfl)
theorem dX2_init_117 : decode cX2_init 117 = .ok (.newarray .int, 2) := dk_188_10 (dk_at dksX2_init_5 0 rfl rfl)
theorem dX2_init_119 : decode cX2_init 119 = .ok (.putfield 53, 3) := dk_181 0 53 (dk_at dksX2_init_5 2 rfl rfl)
theorem dX2_init_122 : decode cX2_init 122 = .ok (.aload_n 0, 1) := dk_42 (dk_at dksX2_init_5 5 rfl rfl)
theorem dX2_init_123 : decode cX2_init 123 = .ok (.sipush 155, 3) := dk_17 0 155 (dk_at dksX2_init_5 6 rfl rfl)
theorem dX2_init_126 : decode cX2_init 126 = .ok (.newarray .int, 2) := dk_188_10 (dk_at dksX2_init_5 9 rfl rfl)
theorem dX2_init_128 : decode cX2_init 128 = .ok (.putfield 56, 3) := dk_181 0 56 (dk_at dksX2_init_5 11 rfl rfl)
theorem dX2_init_131 : decode cX2_init 131 = .ok (.return_, 1) := dk_177 (dk_at dksX2_init_5 14 rfl rfl)
abbrev cX2_pack : ByteArray := prog_24_method_14_code
def yX2_pack : MethodName := ⟨RX2, "pack", "()I"⟩
def dkwX2_pack_2 : List UInt8 := [132, 2, 1, 167, 255, 233, 42, 180, 0, 7, 3, 92, 46, 4, 96, 79, 42, 27, 182, 0, 84, 172]
abbrev dktX2_pack_2 : List UInt8 := dkwX2_pack_2 ++ []
def dkwX2_pack_1 : List UInt8 := [60, 3, 61, 28, 16, 7, 162, 0, 23, 42, 180, 0, 7, 6, 16, 7, 27, 104, 96, 28, 96, 3, 79]
abbrev dktX2_pack_1 : List UInt8 := dkwX2_pack_1 ++ dktX2_pack_2
def dkwX2_pack_0 : List UInt8 := [42, 182, 0, 81, 42, 180, 0, 7, 3, 46, 16, 6, 160, 0, 6, 16, 252, 172, 42, 180, 0, 7, 3, 46]
abbrev dktX2_pack_0 : List UInt8 := dkwX2_pack_0 ++ dktX2_pack_1
theorem dksX2_pack_0 : cX2_pack.data.toList.drop 0 = dktX2_pack_0 := by decide +kernel
theorem dksX2_pack_1 : cX2_pack.data.toList.drop 24 = dktX2_pack_1 := dk_seg dksX2_pack_0 24 rfl rfl
theorem dksX2_pack_2 : cX2_pack.data.toList.drop 47 = dktX2_pack_2 := dk_seg dksX2_pack_1 23 rfl rfl
theorem dX2_pack_0 : decode cX2_pack 0 = .ok (.aload_n 0, 1) := dk_42 (dk_at dksX2_pack_0 0 rfl rfl)
theorem dX2_pack_1 : decode cX2_pack 1 = .ok (.invokevirtual 81, 3) := dk_182 0 81 (dk_at dksX2_pack_0 1 rfl rfl)
theorem dX2_pack_4 : decode cX2_pack 4 = .ok (.aload_n 0, 1) := dk_42 (dk_at dksX2_pack_0 4 rfl rfl)
theorem dX2_pack_5 : decode cX2_pack 5 = .ok (.getfield 7, 3) := dk_180 0 7 (dk_at dksX2_pack_0 5 rfl rfl)
theorem dX2_pack_8 : decode cX2_pack 8 = .ok (.iconst 0, 1) := dk_3 (dk_at dksX2_pack_0 8 rfl rfl)
theorem dX2_pack_9 : decode cX2_pack 9 = .ok (.iaload, 1) := dk_46 (dk_at dksX2_pack_0 9 rfl rfl)
theorem dX2_pack_10 : decode cX2_pack 10 = .ok (.bipush 6, 2) := dk_16 6 (dk_at dksX2_pack_0 10 rfl rfl)
theorem dX2_pack_12 : decode cX2_pack 12 = .ok (.if_icmp .ne 6, 3) := dk_160 0 6 (dk_at dksX2_pack_0 12 rfl rfl)
theorem dX2_pack_15 : decode cX2_pack 15 = .ok (.bipush (-4), 2) := dk_16 252 (dk_at dksX2_pack_0 15 rfl rfl)
theorem dX2_pack_17 : decode cX2_pack 17 = .ok (.ireturn, 1) := dk_172 (dk_at dksX2_pack_0 17 rfl rfl)
theorem dX2_pack_18 : decode cX2_pack 18 = .ok (.aload_n 0, 1) := dk_42 (dk_at dksX2_pack_0 18 rfl rfl)
theorem dX2_pack_19 : decode cX2_pack 19 = .ok (.getfield 7, 3) := dk_180 0 7 (dk_at dksX2_pack_0 19 rfl rfl)
theorem dX2_pack_22 : decode cX2_pack 22 = .ok (.iconst 0, 1) := dk_3 (dk_at dksX2_pack_0 22 rfl rfl)
theorem dX2_pack_23 : decode cX2_pack 23 = .ok (.iaload, 1) := dk_46 (dk_at dksX2_pack_0 23 rfl rfl)
theorem dX2_pack_24 : decode cX2_pack 24 = .ok (.istore_n 1, 1) := dk_60 (dk_at dksX2_pack_1 0 rfl rfl)
theorem dX2_pack_25 : decode cX2_pack 25 = .ok (.iconst 0, 1) := dk_3 (dk_at dksX2_pack_1 1 rfl rfl)
theorem dX2_pack_26 : decode cX2_pack 26 = .ok (.istore_n 2, 1) := dk_61 (dk_at dksX2_pack_1 2 rfl rfl)
theorem dX2_pack_27 : decode cX2_pack 27 = .ok (.iload_n 2, 1) := dk_28 (dk_at dksX2_pack_1 3 rfl rfl)
theorem dX2_pack_28 : decode cX2_pack 28 = .ok (.bipush 7, 2) := dk_16 7 (dk_at dksX2_pack_1 4 rfl rfl)
theorem dX2_pack_30 : decode cX2_pack 30 = .ok (.if_icmp .ge 23, 3) := dk_162 0 23 (dk_at dksX2_pack_1 6 rfl rfl)
theorem dX2_pack_33 : decode cX2_pack 33 = .ok (.aload_n 0, 1) := dk_42 (dk_at dksX2_pack_1 9 rfl rfl)
theorem dX2_pack_34 : decode cX2_pack 34 = .ok (.getfield 7, 3) := dk_180 0 7 (dk_at dksX2_pack_1 10 rfl rfl)
theorem dX2_pack_37 : decode cX2_pack 37 = .ok (.iconst 3, 1) := dk_6 (dk_at dksX2_pack_1 13 rfl rfl)
theorem dX2_pack_38 : decode cX2_pack 38 = .ok (.bipush 7, 2) := dk_16 7 (dk_at dksX2_pack_1 14 rfl rfl)
theorem dX2_pack_40 : decode cX2_pack 40 = .ok (.iload_n 1, 1) := dk_27 (dk_at dksX2_pack_1 16 rfl rfl)
theorem dX2_pack_41 : decode cX2_pack 41 = .ok (.imul, 1) := dk_104 (dk_at dksX2_pack_1 17 rfl rfl)
theorem dX2_pack_42 : decode cX2_pack 42 = .ok (.iadd, 1) := dk_96 (dk_at dksX2_pack_1 18 rfl rfl)
theorem dX2_pack_43 : decode cX2_pack 43 = .ok (.iload_n 2, 1) := dk_28 (dk_at dksX2_pack_1 19 rfl rfl)
theorem dX2_pack_44 : decode cX2_pack 44 = .ok (.iadd, 1) := dk_96 (dk_at dksX2_pack_1 20 rfl rfl)
theorem dX2_pack_45 : decode cX2_pack 45 = .ok (.iconst 0, 1) := dk_3 (dk_at dksX2_pack_1 21 rfl rfl)
theorem dX2_pack_46 : decode cX2_pack 46 = .ok (.iastore, 1) := dk_79 (dk_at dksX2_pack_1 22 rfl rfl)
theorem dX2_pack_47 : decode cX2_pack 47 = .ok (.iinc 2 1, 3) := dk_132 2 1 (dk_at dksX2_pack_2 0 rfl rfl)
theorem dX2_pack_50 : decode cX2_pack 50 = .ok (.goto (-23), 3) := dk_167 255 233 (dk_at dksX2_pack_2 3 rfl rfl)
theorem dX2_pack_53 : decode cX2_pack 53 = .ok (.aload_n 0, 1) := dk_42 (dk_at dksX2_pack_2 6 rfl rfl)
theorem dX2_pack_54 : decode cX2_pack 54 = .ok (.getfield 7, 3) := dk_180 0 7 (dk_at dksX2_pack_2 7 rfl rfl)
theorem dX2_pack_57 : decode cX2_pack 57 = .ok (.iconst 0, 1) := dk_3 (dk_at dksX2_pack_2 10 rfl rfl)
theorem dX2_pack_58 : decode cX2_pack 58 = .ok (.dup2, 1) := dk_92 (dk_at dksX2_pack_2 11 rfl rfl)
theorem dX2_pack_59 : decode cX2_pack 59 = .ok (.iaload, 1) := dk_46 (dk_at dksX2_pack_2 12 rfl rfl)
theorem dX2_pack_60 : decode cX2_pack 60 = .ok (.iconst 1, 1) := dk_4 (dk_at dksX2_pack_2 13 rfl rfl)
theorem dX2_pack_61 : decode cX2_pack 61 = .ok (.iadd, 1) := dk_96 (dk_at dksX2_pack_2 14 rfl rfl)
theorem dX2_pack_62 : decode cX2_pack 62 = .ok (.iastore, 1) := dk_79 (dk_at dksX2_pack_2 15 rfl rfl)
theorem dX2_pack_63 : decode cX2_pack 63 = .ok (.aload_n 0, 1) := dk_42 (dk_at dksX2_pack_2 16 rfl rfl)
theorem dX2_pack_64 : decode cX2_pack 64 = .ok (.iload_n 1, 1) := dk_27 (dk_at dksX2_pack_2 17 rfl rfl)
theorem dX2_pack_65 : decode cX2_pack 65 = .ok (.invokevirtual 84, 3) := dk_182 0 84 (dk_at dksX2_pack_2 18 rfl rfl)
theorem dX2_pack_68 : decode cX2_pack 68 = .ok (.ireturn, 1) := dk_172 (dk_at dksX2_pack_2 21 rfl rfl)
abbrev cX2_remembers : ByteArray := prog_24_method_9_code
def yX2_remembers : MethodName := ⟨RX2, "remembers", "()V"⟩
def dkwX2_remembers_1 : List UInt8 := [167, 255, 234, 177]
abbrev dktX2_remembers_1 : List UInt8 := dkwX2_remembers_1 ++ []
def dkwX2_remembers_0 : List UInt8 := [3, 60, 27, 17, 0, 237, 162, 0, 21, 42, 180, 0, 16, 27, 42, 180, 0, 7, 27, 46, 79, 132, 1, 1]
abbrev dktX2_remembers_0 : List UInt8 := dkwX2_remembers_0 ++ dktX2_remembers_1
theorem dksX2_remembers_0 : cX2_remembers.data.toList.drop 0 = dktX2_remembers_0 := by decide +kernel
theorem dksX2_remembers_1 : cX2_remembers.data.toList.drop 24 = dktX2_remembers_1 := dk_seg dksX2_remembers_0 24 rfl rfl
theorem dX2_remembers_0 : decode cX2_remembers 0 = .ok (.iconst 0, 1) := dk_3 (dk_at dksX2_remembers_0 0 rfl rfl)
theorem dX2_remembers_1 : decode cX2_remembers 1 = .ok (.istore_n 1, 1) := dk_60 (dk_at dksX2_remembers_0 1 rfl rfl)
theorem dX2_remembers_2 : decode cX2_remembers 2 = .ok (.iload_n 1, 1) := dk_27 (dk_at dksX2_remembers_0 2 rfl rfl)
theorem dX2_remembers_3 : decode cX2_remembers 3 = .ok (.sipush 237, 3) := dk_17 0 237 (dk_at dksX2_remembers_0 3 rfl rfl)
theorem dX2_remembers_6 : decode cX2_remembers 6 = .ok (.if_icmp .ge 21, 3) := dk_162 0 21 (dk_at dksX2_remembers_0 6 rfl rfl)
theorem dX2_remembers_9 : decode cX2_remembers 9 = .ok (.aload_n 0, 1) := dk_42 (dk_at dksX2_remembers_0 9 rfl rfl)
theorem dX2_remembers_10 : decode cX2_remembers 10 = .ok (.getfield 16, 3) := dk_180 0 16 (dk_at dksX2_remembers_0 10 rfl rfl)
theorem dX2_remembers_13 : decode cX2_remembers 13 = .ok (.iload_n 1, 1) := dk_27 (dk_at dksX2_remembers_0 13 rfl rfl)
theorem dX2_remembers_14 : decode cX2_remembers 14 = .ok (.aload_n 0, 1) := dk_42 (dk_at dksX2_remembers_0 14 rfl rfl)
theorem dX2_remembers_15 : decode cX2_remembers 15 = .ok (.getfield 7, 3) := dk_180 0 7 (dk_at dksX2_remembers_0 15 rfl rfl)
theorem dX2_remembers_18 : decode cX2_remembers 18 = .ok (.iload_n 1, 1) := dk_27 (dk_at dksX2_remembers_0 18 rfl rfl)
theorem dX2_remembers_19 : decode cX2_remembers 19 = .ok (.iaload, 1) := dk_46 (dk_at dksX2_remembers_0 19 rfl rfl)
theorem dX2_remembers_20 : decode cX2_remembers 20 = .ok (.iastore, 1) := dk_79 (dk_at dksX2_remembers_0 20 rfl rfl)
theorem dX2_remembers_21 : decode cX2_remembers 21 = .ok (.iinc 1 1, 3) := dk_132 1 1 (dk_at dksX2_remembers_0 21 rfl rfl)
theorem dX2_remembers_24 : decode cX2_remembers 24 = .ok (.goto (-22), 3) := dk_167 255 234 (dk_at dksX2_remembers_1 0 rfl rfl)
theorem dX2_remembers_27 : decode cX2_remembers 27 = .ok (.return_, 1) := dk_177 (dk_at dksX2_remembers_1 3 rfl rfl)
abbrev cX2_changed : ByteArray := prog_24_method_10_code
def yX2_changed : MethodName := ⟨RX2, "changed", "(I)I"⟩
def dkwX2_changed_3 : List UInt8 := [180, 0, 71, 4, 100, 104, 28, 96, 42, 180, 0, 16, 28, 46, 79, 132, 2, 1, 167, 255, 223, 27, 172]
abbrev dktX2_changed_3 : List UInt8 := dkwX2_changed_3 ++ []
def dkwX2_changed_2 : List UInt8 := [4, 96, 181, 0, 71, 3, 61, 28, 17, 0, 237, 162, 0, 32, 42, 180, 0, 19, 17, 0, 237, 42]
abbrev dktX2_changed_2 : List UInt8 := dkwX2_changed_2 ++ dktX2_changed_3
def dkwX2_changed_1 : List UInt8 := [180, 0, 19, 28, 17, 0, 237, 96, 46, 79, 132, 2, 1, 167, 255, 230, 167, 0, 13, 42, 89, 180, 0, 71]
abbrev dktX2_changed_1 : List UInt8 := dkwX2_changed_1 ++ dktX2_changed_2
def dkwX2_changed_0 : List UInt8 := [42, 180, 0, 71, 16, 8, 160, 0, 37, 3, 61, 28, 17, 6, 123, 162, 0, 25, 42, 180, 0, 19, 28, 42]
abbrev dktX2_changed_0 : List UInt8 := dkwX2_changed_0 ++ dktX2_changed_1
theorem dksX2_changed_0 : cX2_changed.data.toList.drop 0 = dktX2_changed_0 := by decide +kernel
theorem dksX2_changed_1 : cX2_changed.data.toList.drop 24 = dktX2_changed_1 := dk_seg dksX2_changed_0 24 rfl rfl
theorem dksX2_changed_2 : cX2_changed.data.toList.drop 48 = dktX2_changed_2 := dk_seg dksX2_changed_1 24 rfl rfl
theorem dksX2_changed_3 : cX2_changed.data.toList.drop 70 = dktX2_changed_3 := dk_seg dksX2_changed_2 22 rfl rfl
theorem dX2_changed_0 : decode cX2_changed 0 = .ok (.aload_n 0, 1) := dk_42 (dk_at dksX2_changed_0 0 rfl rfl)
theorem dX2_changed_1 : decode cX2_changed 1 = .ok (.getfield 71, 3) := dk_180 0 71 (dk_at dksX2_changed_0 1 rfl rfl)
theorem dX2_changed_4 : decode cX2_changed 4 = .ok (.bipush 8, 2) := dk_16 8 (dk_at dksX2_changed_0 4 rfl rfl)
theorem dX2_changed_6 : decode cX2_changed 6 = .ok (.if_icmp .ne 37, 3) := dk_160 0 37 (dk_at dksX2_changed_0 6 rfl rfl)
theorem dX2_changed_9 : decode cX2_changed 9 = .ok (.iconst 0, 1) := dk_3 (dk_at dksX2_changed_0 9 rfl rfl)
theorem dX2_changed_10 : decode cX2_changed 10 = .ok (.istore_n 2, 1) := dk_61 (dk_at dksX2_changed_0 10 rfl rfl)
theorem dX2_changed_11 : decode cX2_changed 11 = .ok (.iload_n 2, 1) := dk_28 (dk_at dksX2_changed_0 11 rfl rfl)
theorem dX2_changed_12 : decode cX2_changed 12 = .ok (.sipush 1659, 3) := dk_17 6 123 (dk_at dksX2_changed_0 12 rfl rfl)
theorem dX2_changed_15 : decode cX2_changed 15 = .ok (.if_icmp .ge 25, 3) := dk_162 0 25 (dk_at dksX2_changed_0 15 rfl rfl)
theorem dX2_changed_18 : decode cX2_changed 18 = .ok (.aload_n 0, 1) := dk_42 (dk_at dksX2_changed_0 18 rfl rfl)
theorem dX2_changed_19 : decode cX2_changed 19 = .ok (.getfield 19, 3) := dk_180 0 19 (dk_at dksX2_changed_0 19 rfl rfl)
theorem dX2_changed_22 : decode cX2_changed 22 = .ok (.iload_n 2, 1) := dk_28 (dk_at dksX2_changed_0 22 rfl rfl)
theorem dX2_changed_23 : decode cX2_changed 23 = .ok (.aload_n 0, 1) := dk_42 (dk_at dksX2_changed_0 23 rfl rfl)
theorem dX2_changed_24 : decode cX2_changed 24 = .ok (.getfield 19, 3) := dk_180 0 19 (dk_at dksX2_changed_1 0 rfl rfl)
theorem dX2_changed_27 : decode cX2_changed 27 = .ok (.iload_n 2, 1) := dk_28 (dk_at dksX2_changed_1 3 rfl rfl)
theorem dX2_changed_28 : decode cX2_changed 28 = .ok (.sipush 237, 3) := dk_17 0 237 (dk_at dksX2_changed_1 4 rfl rfl)
theorem dX2_changed_31 : decode cX2_changed 31 = .ok (.iadd, 1) := dk_96 (dk_at dksX2_changed_1 7 rfl rfl)
theorem dX2_changed_32 : decode cX2_changed 32 = .ok (.iaload, 1) := dk_46 (dk_at dksX2_changed_1 8 rfl rfl)
theorem dX2_changed_33 : decode cX2_changed 33 = .ok (.iastore, 1) := dk_79 (dk_at dksX2_changed_1 9 rfl rfl)
theorem dX2_changed_34 : decode cX2_changed 34 = .ok (.iinc 2 1, 3) := dk_132 2 1 (dk_at dksX2_changed_1 10 rfl rfl)
theorem dX2_changed_37 : decode cX2_changed 37 = .ok (.goto (-26), 3) := dk_167 255 230 (dk_at dksX2_changed_1 13 rfl rfl)
theorem dX2_changed_40 : decode cX2_changed 40 = .ok (.goto 13, 3) := dk_167 0 13 (dk_at dksX2_changed_1 16 rfl rfl)
theorem dX2_changed_43 : decode cX2_changed 43 = .ok (.aload_n 0, 1) := dk_42 (dk_at dksX2_changed_1 19 rfl rfl)
theorem dX2_changed_44 : decode cX2_changed 44 = .ok (.dup, 1) := dk_89 (dk_at dksX2_changed_1 20 rfl rfl)
theorem dX2_changed_45 : decode cX2_changed 45 = .ok (.getfield 71, 3) := dk_180 0 71 (dk_at dksX2_changed_1 21 rfl rfl)
theorem dX2_changed_48 : decode cX2_changed 48 = .ok (.iconst 1, 1) := dk_4 (dk_at dksX2_changed_2 0 rfl rfl)
theorem dX2_changed_49 : decode cX2_changed 49 = .ok (.iadd, 1) := dk_96 (dk_at dksX2_changed_2 1 rfl rfl)
theorem dX2_changed_50 : decode cX2_changed 50 = .ok (.putfield 71, 3) := dk_181 0 71 (dk_at dksX2_changed_2 2 rfl rfl)
theorem dX2_changed_53 : decode cX2_changed 53 = .ok (.iconst 0, 1) := dk_3 (dk_at dksX2_changed_2 5 rfl rfl)
theorem dX2_changed_54 : decode cX2_changed 54 = .ok (.istore_n 2, 1) := dk_61 (dk_at dksX2_changed_2 6 rfl rfl)
theorem dX2_changed_55 : decode cX2_changed 55 = .ok (.iload_n 2, 1) := dk_28 (dk_at dksX2_changed_2 7 rfl rfl)
theorem dX2_changed_56 : decode cX2_changed 56 = .ok (.sipush 237, 3) := dk_17 0 237 (dk_at dksX2_changed_2 8 rfl rfl)
theorem dX2_changed_59 : decode cX2_changed 59 = .ok (.if_icmp .ge 32, 3) := dk_162 0 32 (dk_at dksX2_changed_2 11 rfl rfl)
theorem dX2_changed_62 : decode cX2_changed 62 = .ok (.aload_n 0, 1) := dk_42 (dk_at dksX2_changed_2 14 rfl rfl)
theorem dX2_changed_63 : decode cX2_changed 63 = .ok (.getfield 19, 3) := dk_180 0 19 (dk_at dksX2_changed_2 15 rfl rfl)
theorem dX2_changed_66 : decode cX2_changed 66 = .ok (.sipush 237, 3) := dk_17 0 237 (dk_at dksX2_changed_2 18 rfl rfl)
theorem dX2_changed_69 : decode cX2_changed 69 = .ok (.aload_n 0, 1) := dk_42 (dk_at dksX2_changed_2 21 rfl rfl)
theorem dX2_changed_70 : decode cX2_changed 70 = .ok (.getfield 71, 3) := dk_180 0 71 (dk_at dksX2_changed_3 0 rfl rfl)
theorem dX2_changed_73 : decode cX2_changed 73 = .ok (.iconst 1, 1) := dk_4 (dk_at dksX2_changed_3 3 rfl rfl)
theorem dX2_changed_74 : decode cX2_changed 74 = .ok (.isub, 1) := dk_100 (dk_at dksX2_changed_3 4 rfl rfl)
theorem dX2_changed_75 : decode cX2_changed 75 = .ok (.imul, 1) := dk_104 (dk_at dksX2_changed_3 5 rfl rfl)
theorem dX2_changed_76 : decode cX2_changed 76 = .ok (.iload_n 2, 1) := dk_28 (dk_at dksX2_changed_3 6 rfl rfl)
theorem dX2_changed_77 : decode cX2_changed 77 = .ok (.iadd, 1) := dk_96 (dk_at dksX2_changed_3 7 rfl rfl)
theorem dX2_changed_78 : decode cX2_changed 78 = .ok (.aload_n 0, 1) := dk_42 (dk_at dksX2_changed_3 8 rfl rfl)
theorem dX2_changed_79 : decode cX2_changed 79 = .ok (.getfield 16, 3) := dk_180 0 16 (dk_at dksX2_changed_3 9 rfl rfl)
theorem dX2_changed_82 : decode cX2_changed 82 = .ok (.iload_n 2, 1) := dk_28 (dk_at dksX2_changed_3 12 rfl rfl)
theorem dX2_changed_83 : decode cX2_changed 83 = .ok (.iaload, 1) := dk_46 (dk_at dksX2_changed_3 13 rfl rfl)
theorem dX2_changed_84 : decode cX2_changed 84 = .ok (.iastore, 1) := dk_79 (dk_at dksX2_changed_3 14 rfl rfl)
theorem dX2_changed_85 : decode cX2_changed 85 = .ok (.iinc 2 1, 3) := dk_132 2 1 (dk_at dksX2_changed_3 15 rfl rfl)
theorem dX2_changed_88 : decode cX2_changed 88 = .ok (.goto (-33), 3) := dk_167 255 223 (dk_at dksX2_changed_3 18 rfl rfl)
theorem dX2_changed_91 : decode cX2_changed 91 = .ok (.iload_n 1, 1) := dk_27 (dk_at dksX2_changed_3 21 rfl rfl)
theorem dX2_changed_92 : decode cX2_changed 92 = .ok (.ireturn, 1) := dk_172 (dk_at dksX2_changed_3 22 rfl rfl)
abbrev cX2_version : ByteArray := prog_24_method_15_code
def yX2_version : MethodName := ⟨RX2, "version", "(IIII)I"⟩
def dkwX2_version_6 : List UInt8 := [96, 92, 46, 4, 96, 79, 42, 21, 6, 182, 0, 84, 172]
abbrev dktX2_version_6 : List UInt8 := dkwX2_version_6 ++ []
def dkwX2_version_5 : List UInt8 := [16, 7, 27, 104, 96, 5, 96, 21, 6, 96, 21, 5, 79, 42, 180, 0, 7, 6, 16, 7, 27, 104, 96, 3]
abbrev dktX2_version_5 : List UInt8 := dkwX2_version_5 ++ dktX2_version_6
def dkwX2_version_4 : List UInt8 := [16, 253, 172, 132, 7, 1, 167, 255, 229, 21, 6, 8, 160, 0, 6, 16, 252, 172, 42, 180, 0, 7, 6]
abbrev dktX2_version_4 : List UInt8 := dkwX2_version_4 ++ dktX2_version_5
def dkwX2_version_3 : List UInt8 := [54, 7, 21, 7, 21, 6, 162, 0, 26, 42, 27, 5, 21, 7, 96, 182, 0, 67, 21, 5, 160, 0, 6]
abbrev dktX2_version_3 : List UInt8 := dkwX2_version_3 ++ dktX2_version_4
def dkwX2_version_2 : List UInt8 := [16, 100, 28, 104, 16, 10, 29, 104, 96, 21, 4, 96, 54, 5, 42, 27, 3, 182, 0, 67, 54, 6, 3]
abbrev dktX2_version_2 : List UInt8 := dkwX2_version_2 ++ dktX2_version_3
def dkwX2_version_1 : List UInt8 := [29, 3, 16, 9, 184, 0, 59, 153, 0, 14, 21, 4, 3, 16, 9, 184, 0, 59, 154, 0, 6, 16, 254, 172]
abbrev dktX2_version_1 : List UInt8 := dkwX2_version_1 ++ dktX2_version_2
def dkwX2_version_0 : List UInt8 := [42, 182, 0, 81, 42, 27, 182, 0, 63, 154, 0, 5, 2, 172, 28, 3, 16, 9, 184, 0, 59, 153, 0, 24]
abbrev dktX2_version_0 : List UInt8 := dkwX2_version_0 ++ dktX2_version_1
theorem dksX2_version_0 : cX2_version.data.toList.drop 0 = dktX2_version_0 := by decide +kernel
theorem dksX2_version_1 : cX2_version.data.toList.drop 24 = dktX2_version_1 := dk_seg dksX2_version_0 24 rfl rfl
theorem dksX2_version_2 : cX2_version.data.toList.drop 48 = dktX2_version_2 := dk_seg dksX2_version_1 24 rfl rfl
theorem dksX2_version_3 : cX2_version.data.toList.drop 71 = dktX2_version_3 := dk_seg dksX2_version_2 23 rfl rfl
theorem dksX2_version_4 : cX2_version.data.toList.drop 94 = dktX2_version_4 := dk_seg dksX2_version_3 23 rfl rfl
theorem dksX2_version_5 : cX2_version.data.toList.drop 117 = dktX2_version_5 := dk_seg dksX2_version_4 23 rfl rfl
theorem dksX2_version_6 : cX2_version.data.toList.drop 141 = dktX2_version_6 := dk_seg dksX2_version_5 24 rfl rfl
theorem dX2_version_0 : decode cX2_version 0 = .ok (.aload_n 0, 1) := dk_42 (dk_at dksX2_version_0 0 rfl rfl)
theorem dX2_version_1 : decode cX2_version 1 = .ok (.invokevirtual 81, 3) := dk_182 0 81 (dk_at dksX2_version_0 1 rfl rfl)
theorem dX2_version_4 : decode cX2_version 4 = .ok (.aload_n 0, 1) := dk_42 (dk_at dksX2_version_0 4 rfl rfl)
theorem dX2_version_5 : decode cX2_version 5 = .ok (.iload_n 1, 1) := dk_27 (dk_at dksX2_version_0 5 rfl rfl)
theorem dX2_version_6 : decode cX2_version 6 = .ok (.invokevirtual 63, 3) := dk_182 0 63 (dk_at dksX2_version_0 6 rfl rfl)
theorem dX2_version_9 : decode cX2_version 9 = .ok (.ifCond .ne 5, 3) := dk_154 0 5 (dk_at dksX2_version_0 9 rfl rfl)
theorem dX2_version_12 : decode cX2_version 12 = .ok (.iconst (-1), 1) := dk_2 (dk_at dksX2_version_0 12 rfl rfl)
theorem dX2_version_13 : decode cX2_version 13 = .ok (.ireturn, 1) := dk_172 (dk_at dksX2_version_0 13 rfl rfl)
theorem dX2_version_14 : decode cX2_version 14 = .ok (.iload_n 2, 1) := dk_28 (dk_at dksX2_version_0 14 rfl rfl)
theorem dX2_version_15 : decode cX2_version 15 = .ok (.iconst 0, 1) := dk_3 (dk_at dksX2_version_0 15 rfl rfl)
theorem dX2_version_16 : decode cX2_version 16 = .ok (.bipush 9, 2) := dk_16 9 (dk_at dksX2_version_0 16 rfl rfl)
theorem dX2_version_18 : decode cX2_version 18 = .ok (.invokestatic 59, 3) := dk_184 0 59 (dk_at dksX2_version_0 18 rfl rfl)
theorem dX2_version_21 : decode cX2_version 21 = .ok (.ifCond .eq 24, 3) := dk_153 0 24 (dk_at dksX2_version_0 21 rfl rfl)
theorem dX2_version_24 : decode cX2_version 24 = .ok (.iload_n 3, 1) := dk_29 (dk_at dksX2_version_1 0 rfl rfl)
theorem dX2_version_25 : decode cX2_version 25 = .ok (.iconst 0, 1) := dk_3 (dk_at dksX2_version_1 1 rfl rfl)
theorem dX2_version_26 : decode cX2_version 26 = .ok (.bipush 9, 2) := dk_16 9 (dk_at dksX2_version_1 2 rfl rfl)
theorem dX2_version_28 : decode cX2_version 28 = .ok (.invokestatic 59, 3) := dk_184 0 59 (dk_at dksX2_version_1 4 rfl rfl)
theorem dX2_version_31 : decode cX2_version 31 = .ok (.ifCond .eq 14, 3) := dk_153 0 14 (dk_at dksX2_version_1 7 rfl rfl)
theorem dX2_version_34 : decode cX2_version 34 = .ok (.iload 4, 2) := dk_21 4 (dk_at dksX2_version_1 10 rfl rfl)
theorem dX2_version_36 : decode cX2_version 36 = .ok (.iconst 0, 1) := dk_3 (dk_at dksX2_version_1 12 rfl rfl)
theorem dX2_version_37 : decode cX2_version 37 = .ok (.bipush 9, 2) := dk_16 9 (dk_at dksX2_version_1 13 rfl rfl)
theorem dX2_version_39 : decode cX2_version 39 = .ok (.invokestatic 59, 3) := dk_184 0 59 (dk_at dksX2_version_1 15 rfl rfl)
theorem dX2_version_42 : decode cX2_version 42 = .ok (.ifCond .ne 6, 3) := dk_154 0 6 (dk_at dksX2_version_1 18 rfl rfl)
theorem dX2_version_45 : decode cX2_version 45 = .ok (.bipush (-2), 2) := dk_16 254 (dk_at dksX2_version_1 21 rfl rfl)
theorem dX2_version_47 : decode cX2_version 47 = .ok (.ireturn, 1) := dk_172 (dk_at dksX2_version_1 23 rfl rfl)
theorem dX2_version_48 : decode cX2_version 48 = .ok (.bipush 100, 2) := dk_16 100 (dk_at dksX2_version_2 0 rfl rfl)
theorem dX2_version_50 : decode cX2_version 50 = .ok (.iload_n 2, 1) := dk_28 (dk_at dksX2_version_2 2 rfl rfl)
theorem dX2_version_51 : decode cX2_version 51 = .ok (.imul, 1) := dk_104 (dk_at dksX2_version_2 3 rfl rfl)
theorem dX2_version_52 : decode cX2_version 52 = .ok (.bipush 10, 2) := dk_16 10 (dk_at dksX2_version_2 4 rfl rfl)
theorem dX2_version_54 : decode cX2_version 54 = .ok (.iload_n 3, 1) := dk_29 (dk_at dksX2_version_2 6 rfl rfl)
theorem dX2_version_55 : decode cX2_version 55 = .ok (.imul, 1) := dk_104 (dk_at dksX2_version_2 7 rfl rfl)
theorem dX2_version_56 : decode cX2_version 56 = .ok (.iadd, 1) := dk_96 (dk_at dksX2_version_2 8 rfl rfl)
theorem dX2_version_57 : decode cX2_version 57 = .ok (.iload 4, 2) := dk_21 4 (dk_at dksX2_version_2 9 rfl rfl)
theorem dX2_version_59 : decode cX2_version 59 = .ok (.iadd, 1) := dk_96 (dk_at dksX2_version_2 11 rfl rfl)
theorem dX2_version_60 : decode cX2_version 60 = .ok (.istore 5, 2) := dk_54 5 (dk_at dksX2_version_2 12 rfl rfl)
theorem dX2_version_62 : decode cX2_version 62 = .ok (.aload_n 0, 1) := dk_42 (dk_at dksX2_version_2 14 rfl rfl)
theorem dX2_version_63 : decode cX2_version 63 = .ok (.iload_n 1, 1) := dk_27 (dk_at dksX2_version_2 15 rfl rfl)
theorem dX2_version_64 : decode cX2_version 64 = .ok (.iconst 0, 1) := dk_3 (dk_at dksX2_version_2 16 rfl rfl)
theorem dX2_version_65 : decode cX2_version 65 = .ok (.invokevirtual 67, 3) := dk_182 0 67 (dk_at dksX2_version_2 17 rfl rfl)
theorem dX2_version_68 : decode cX2_version 68 = .ok (.istore 6, 2) := dk_54 6 (dk_at dksX2_version_2 20 rfl rfl)
theorem dX2_version_70 : decode cX2_version 70 = .ok (.iconst 0, 1) := dk_3 (dk_at dksX2_version_2 22 rfl rfl)
theorem dX2_version_71 : decode cX2_version 71 = .ok (.istore 7, 2) := dk_54 7 (dk_at dksX2_version_3 0 rfl rfl)
theorem dX2_version_73 : decode cX2_version 73 = .ok (.iload 7, 2) := dk_21 7 (dk_at dksX2_version_3 2 rfl rfl)
theorem dX2_version_75 : decode cX2_version 75 = .ok (.iload 6, 2) := dk_21 6 (dk_at dksX2_version_3 4 rfl rfl)
theorem dX2_version_77 : decode cX2_version 77 = .ok (.if_icmp .ge 26, 3) := dk_162 0 26 (dk_at dksX2_version_3 6 rfl rfl)
theorem dX2_version_80 : decode cX2_version 80 = .ok (.aload_n 0, 1) := dk_42 (dk_at dksX2_version_3 9 rfl rfl)
theorem dX2_version_81 : decode cX2_version 81 = .ok (.iload_n 1, 1) := dk_27 (dk_at dksX2_version_3 10 rfl rfl)
theorem dX2_version_82 : decode cX2_version 82 = .ok (.iconst 2, 1) := dk_5 (dk_at dksX2_version_3 11 rfl rfl)
theorem dX2_version_83 : decode cX2_version 83 = .ok (.iload 7, 2) := dk_21 7 (dk_at dksX2_version_3 12 rfl rfl)
theorem dX2_version_85 : decode cX2_version 85 = .ok (.iadd, 1) := dk_96 (dk_at dksX2_version_3 14 rfl rfl)
theorem dX2_version_86 : decode cX2_version 86 = .ok (.invokevirtual 67, 3) := dk_182 0 67 (dk_at dksX2_version_3 15 rfl rfl)
theorem dX2_version_89 : decode cX2_version 89 = .ok (.iload 5, 2) := dk_21 5 (dk_at dksX2_version_3 18 rfl rfl)
theorem dX2_version_91 : decode cX2_version 91 = .ok (.if_icmp .ne 6, 3) := dk_160 0 6 (dk_at dksX2_version_3 20 rfl rfl)
theorem dX2_version_94 : decode cX2_version 94 = .ok (.bipush (-3), 2) := dk_16 253 (dk_at dksX2_version_4 0 rfl rfl)
theorem dX2_version_96 : decode cX2_version 96 = .ok (.ireturn, 1) := dk_172 (dk_at dksX2_version_4 2 rfl rfl)
theorem dX2_version_97 : decode cX2_version 97 = .ok (.iinc 7 1, 3) := dk_132 7 1 (dk_at dksX2_version_4 3 rfl rfl)
theorem dX2_version_100 : decode cX2_version 100 = .ok (.goto (-27), 3) := dk_167 255 229 (dk_at dksX2_version_4 6 rfl rfl)
theorem dX2_version_103 : decode cX2_version 103 = .ok (.iload 6, 2) := dk_21 6 (dk_at dksX2_version_4 9 rfl rfl)
theorem dX2_version_105 : decode cX2_version 105 = .ok (.iconst 5, 1) := dk_8 (dk_at dksX2_version_4 11 rfl rfl)
theorem dX2_version_106 : decode cX2_version 106 = .ok (.if_icmp .ne 6, 3) := dk_160 0 6 (dk_at dksX2_version_4 12 rfl rfl)
theorem dX2_version_109 : decode cX2_version 109 = .ok (.bipush (-4), 2) := dk_16 252 (dk_at dksX2_version_4 15 rfl rfl)
theorem dX2_version_111 : decode cX2_version 111 = .ok (.ireturn, 1) := dk_172 (dk_at dksX2_version_4 17 rfl rfl)
theorem dX2_version_112 : decode cX2_version 112 = .ok (.aload_n 0, 1) := dk_42 (dk_at dksX2_version_4 18 rfl rfl)
theorem dX2_version_113 : decode cX2_version 113 = .ok (.getfield 7, 3) := dk_180 0 7 (dk_at dksX2_version_4 19 rfl rfl)
theorem dX2_version_116 : decode cX2_version 116 = .ok (.iconst 3, 1) := dk_6 (dk_at dksX2_version_4 22 rfl rfl)
theorem dX2_version_117 : decode cX2_version 117 = .ok (.bipush 7, 2) := dk_16 7 (dk_at dksX2_version_5 0 rfl rfl)
theorem dX2_version_119 : decode cX2_version 119 = .ok (.iload_n 1, 1) := dk_27 (dk_at dksX2_version_5 2 rfl rfl)
theorem dX2_version_120 : decode cX2_version 120 = .ok (.imul, 1) := dk_104 (dk_at dksX2_version_5 3 rfl rfl)
theorem dX2_version_121 : decode cX2_version 121 = .ok (.iadd, 1) := dk_96 (dk_at dksX2_version_5 4 rfl rfl)
theorem dX2_version_122 : decode cX2_version 122 = .ok (.iconst 2, 1) := dk_5 (dk_at dksX2_version_5 5 rfl rfl)
theorem dX2_version_123 : decode cX2_version 123 = .ok (.iadd, 1) := dk_96 (dk_at dksX2_version_5 6 rfl rfl)
theorem dX2_version_124 : decode cX2_version 124 = .ok (.iload 6, 2) := dk_21 6 (dk_at dksX2_version_5 7 rfl rfl)
theorem dX2_version_126 : decode cX2_version 126 = .ok (.iadd, 1) := dk_96 (dk_at dksX2_version_5 9 rfl rfl)
theorem dX2_version_127 : decode cX2_version 127 = .ok (.iload 5, 2) := dk_21 5 (dk_at dksX2_version_5 10 rfl rfl)
theorem dX2_version_129 : decode cX2_version 129 = .ok (.iastore, 1) := dk_79 (dk_at dksX2_version_5 12 rfl rfl)
theorem dX2_version_130 : decode cX2_version 130 = .ok (.aload_n 0, 1) := dk_42 (dk_at dksX2_version_5 13 rfl rfl)
theorem dX2_version_131 : decode cX2_version 131 = .ok (.getfield 7, 3) := dk_180 0 7 (dk_at dksX2_version_5 14 rfl rfl)
theorem dX2_version_134 : decode cX2_version 134 = .ok (.iconst 3, 1) := dk_6 (dk_at dksX2_version_5 17 rfl rfl)
theorem dX2_version_135 : decode cX2_version 135 = .ok (.bipush 7, 2) := dk_16 7 (dk_at dksX2_version_5 18 rfl rfl)
theorem dX2_version_137 : decode cX2_version 137 = .ok (.iload_n 1, 1) := dk_27 (dk_at dksX2_version_5 20 rfl rfl)
theorem dX2_version_138 : decode cX2_version 138 = .ok (.imul, 1) := dk_104 (dk_at dksX2_version_5 21 rfl rfl)
theorem dX2_version_139 : decode cX2_version 139 = .ok (.iadd, 1) := dk_96 (dk_at dksX2_version_5 22 rfl rfl)
theorem dX2_version_140 : decode cX2_version 140 = .ok (.iconst 0, 1) := dk_3 (dk_at dksX2_version_5 23 rfl rfl)
theorem dX2_version_141 : decode cX2_version 141 = .ok (.iadd, 1) := dk_96 (dk_at dksX2_version_6 0 rfl rfl)
theorem dX2_version_142 : decode cX2_version 142 = .ok (.dup2, 1) := dk_92 (dk_at dksX2_version_6 1 rfl rfl)
theorem dX2_version_143 : decode cX2_version 143 = .ok (.iaload, 1) := dk_46 (dk_at dksX2_version_6 2 rfl rfl)
theorem dX2_version_144 : decode cX2_version 144 = .ok (.iconst 1, 1) := dk_4 (dk_at dksX2_version_6 3 rfl rfl)
theorem dX2_version_145 : decode cX2_version 145 = .ok (.iadd, 1) := dk_96 (dk_at dksX2_version_6 4 rfl rfl)
theorem dX2_version_146 : decode cX2_version 146 = .ok (.iastore, 1) := dk_79 (dk_at dksX2_version_6 5 rfl rfl)
theorem dX2_version_147 : decode cX2_version 147 = .ok (.aload_n 0, 1) := dk_42 (dk_at dksX2_version_6 6 rfl rfl)
theorem dX2_version_148 : decode cX2_version 148 = .ok (.iload 6, 2) := dk_21 6 (dk_at dksX2_version_6 7 rfl rfl)
theorem dX2_version_150 : decode cX2_version 150 = .ok (.invokevirtual 84, 3) := dk_182 0 84 (dk_at dksX2_version_6 9 rfl rfl)
theorem dX2_version_153 : decode cX2_version 153 = .ok (.ireturn, 1) := dk_172 (dk_at dksX2_version_6 12 rfl rfl)
abbrev cX2_isPack : ByteArray := prog_24_method_5_code
def yX2_isPack : MethodName := ⟨RX2, "isPack", "(I)Z"⟩
def dkwX2_isPack_0 : List UInt8 := [27, 3, 42, 180, 0, 7, 3, 46, 4, 100, 184, 0, 59, 172]
abbrev dktX2_isPack_0 : List UInt8 := dkwX2_isPack_0 ++ []
theorem dksX2_isPack_0 : cX2_isPack.data.toList.drop 0 = dktX2_isPack_0 := by decide +kernel
theorem dX2_isPack_0 : decode cX2_isPack 0 = .ok (.iload_n 1, 1) := dk_27 (dk_at dksX2_isPack_0 0 rfl rfl)
theorem dX2_isPack_1 : decode cX2_isPack 1 = .ok (.iconst 0, 1) := dk_3 (dk_at dksX2_isPack_0 1 rfl rfl)
theorem dX2_isPack_2 : decode cX2_isPack 2 = .ok (.aload_n 0, 1) := dk_42 (dk_at dksX2_isPack_0 2 rfl rfl)
theorem dX2_isPack_3 : decode cX2_isPack 3 = .ok (.getfield 7, 3) := dk_180 0 7 (dk_at dksX2_isPack_0 3 rfl rfl)
theorem dX2_isPack_6 : decode cX2_isPack 6 = .ok (.iconst 0, 1) := dk_3 (dk_at dksX2_isPack_0 6 rfl rfl)
theorem dX2_isPack_7 : decode cX2_isPack 7 = .ok (.iaload, 1) := dk_46 (dk_at dksX2_isPack_0 7 rfl rfl)
theorem dX2_isPack_8 : decode cX2_isPack 8 = .ok (.iconst 1, 1) := dk_4 (dk_at dksX2_isPack_0 8 rfl rfl)
theorem dX2_isPack_9 : decode cX2_isPack 9 = .ok (.isub, 1) := dk_100 (dk_at dksX2_isPack_0 9 rfl rfl)
theorem dX2_isPack_10 : decode cX2_isPack 10 = .ok (.invokestatic 59, 3) := dk_184 0 59 (dk_at dksX2_isPack_0 10 rfl rfl)
theorem dX2_isPack_13 : decode cX2_isPack 13 = .ok (.ireturn, 1) := dk_172 (dk_at dksX2_isPack_0 13 rfl rfl)
abbrev cX2_in : ByteArray := prog_24_method_2_code
def yX2_in : MethodName := ⟨RX2, "in", "(III)Z"⟩
def dkwX2_in_0 : List UInt8 := [26, 27, 161, 0, 12, 26, 28, 163, 0, 7, 4, 167, 0, 4, 3, 172]
abbrev dktX2_in_0 : List UInt8 := dkwX2_in_0 ++ []
theorem dksX2_in_0 : cX2_in.data.toList.drop 0 = dktX2_in_0 := by decide +kernel
theorem dX2_in_0 : decode cX2_in 0 = .ok (.iload_n 0, 1) := dk_26 (dk_at dksX2_in_0 0 rfl rfl)
theorem dX2_in_1 : decode cX2_in 1 = .ok (.iload_n 1, 1) := dk_27 (dk_at dksX2_in_0 1 rfl rfl)
theorem dX2_in_2 : decode cX2_in 2 = .ok (.if_icmp .lt 12, 3) := dk_161 0 12 (dk_at dksX2_in_0 2 rfl rfl)
theorem dX2_in_5 : decode cX2_in 5 = .ok (.iload_n 0, 1) := dk_26 (dk_at dksX2_in_0 5 rfl rfl)
theorem dX2_in_6 : decode cX2_in 6 = .ok (.iload_n 2, 1) := dk_28 (dk_at dksX2_in_0 6 rfl rfl)
theorem dX2_in_7 : decode cX2_in 7 = .ok (.if_icmp .gt 7, 3) := dk_163 0 7 (dk_at dksX2_in_0 7 rfl rfl)
theorem dX2_in_10 : decode cX2_in 10 = .ok (.iconst 1, 1) := dk_4 (dk_at dksX2_in_0 10 rfl rfl)
theorem dX2_in_11 : decode cX2_in 11 = .ok (.goto 4, 3) := dk_167 0 4 (dk_at dksX2_in_0 11 rfl rfl)
theorem dX2_in_14 : decode cX2_in 14 = .ok (.iconst 0, 1) := dk_3 (dk_at dksX2_in_0 14 rfl rfl)
theorem dX2_in_15 : decode cX2_in 15 = .ok (.ireturn, 1) := dk_172 (dk_at dksX2_in_0 15 rfl rfl)
abbrev cX2_of : ByteArray := prog_24_method_3_code
def yX2_of : MethodName := ⟨RX2, "of", "(II)I"⟩
def dkwX2_of_0 : List UInt8 := [42, 180, 0, 7, 6, 16, 7, 27, 104, 96, 28, 96, 46, 172]
abbrev dktX2_of_0 : List UInt8 := dkwX2_of_0 ++ []
theorem dksX2_of_0 : cX2_of.data.toList.drop 0 = dktX2_of_0 := by decide +kernel
theorem dX2_of_0 : decode cX2_of 0 = .ok (.aload_n 0, 1) := dk_42 (dk_at dksX2_of_0 0 rfl rfl)
theorem dX2_of_1 : decode cX2_of 1 = .ok (.getfield 7, 3) := dk_180 0 7 (dk_at dksX2_of_0 1 rfl rfl)
theorem dX2_of_4 : decode cX2_of 4 = .ok (.iconst 3, 1) := dk_6 (dk_at dksX2_of_0 4 rfl rfl)
theorem dX2_of_5 : decode cX2_of 5 = .ok (.bipush 7, 2) := dk_16 7 (dk_at dksX2_of_0 5 rfl rfl)
theorem dX2_of_7 : decode cX2_of 7 = .ok (.iload_n 1, 1) := dk_27 (dk_at dksX2_of_0 7 rfl rfl)
theorem dX2_of_8 : decode cX2_of 8 = .ok (.imul, 1) := dk_104 (dk_at dksX2_of_0 8 rfl rfl)
theorem dX2_of_9 : decode cX2_of 9 = .ok (.iadd, 1) := dk_96 (dk_at dksX2_of_0 9 rfl rfl)
theorem dX2_of_10 : decode cX2_of 10 = .ok (.iload_n 2, 1) := dk_28 (dk_at dksX2_of_0 10 rfl rfl)
theorem dX2_of_11 : decode cX2_of 11 = .ok (.iadd, 1) := dk_96 (dk_at dksX2_of_0 11 rfl rfl)
theorem dX2_of_12 : decode cX2_of 12 = .ok (.iaload, 1) := dk_46 (dk_at dksX2_of_0 12 rfl rfl)
theorem dX2_of_13 : decode cX2_of 13 = .ok (.ireturn, 1) := dk_172 (dk_at dksX2_of_0 13 rfl rfl)
abbrev cX2_open : ByteArray := prog_24_method_16_code
def yX2_open : MethodName := ⟨RX2, "open", "(IZ)I"⟩
def dkwX2_open_2 : List UInt8 := [182, 0, 84, 172]
abbrev dktX2_open_2 : List UInt8 := dkwX2_open_2 ++ []
def dkwX2_open_1 : List UInt8 := [180, 0, 7, 6, 16, 7, 27, 104, 96, 4, 96, 28, 153, 0, 7, 4, 167, 0, 4, 3, 79, 42, 29]
abbrev dktX2_open_1 : List UInt8 := dkwX2_open_1 ++ dktX2_open_2
def dkwX2_open_0 : List UInt8 := [42, 182, 0, 81, 42, 27, 182, 0, 63, 154, 0, 5, 2, 172, 42, 27, 4, 182, 0, 67, 62, 42]
abbrev dktX2_open_0 : List UInt8 := dkwX2_open_0 ++ dktX2_open_1
theorem dksX2_open_0 : cX2_open.data.toList.drop 0 = dktX2_open_0 := by decide +kernel
theorem dksX2_open_1 : cX2_open.data.toList.drop 22 = dktX2_open_1 := dk_seg dksX2_open_0 22 rfl rfl
theorem dksX2_open_2 : cX2_open.data.toList.drop 45 = dktX2_open_2 := dk_seg dksX2_open_1 23 rfl rfl
theorem dX2_open_0 : decode cX2_open 0 = .ok (.aload_n 0, 1) := dk_42 (dk_at dksX2_open_0 0 rfl rfl)
theorem dX2_open_1 : decode cX2_open 1 = .ok (.invokevirtual 81, 3) := dk_182 0 81 (dk_at dksX2_open_0 1 rfl rfl)
theorem dX2_open_4 : decode cX2_open 4 = .ok (.aload_n 0, 1) := dk_42 (dk_at dksX2_open_0 4 rfl rfl)
theorem dX2_open_5 : decode cX2_open 5 = .ok (.iload_n 1, 1) := dk_27 (dk_at dksX2_open_0 5 rfl rfl)
theorem dX2_open_6 : decode cX2_open 6 = .ok (.invokevirtual 63, 3) := dk_182 0 63 (dk_at dksX2_open_0 6 rfl rfl)
theorem dX2_open_9 : decode cX2_open 9 = .ok (.ifCond .ne 5, 3) := dk_154 0 5 (dk_at dksX2_open_0 9 rfl rfl)
theorem dX2_open_12 : decode cX2_open 12 = .ok (.iconst (-1), 1) := dk_2 (dk_at dksX2_open_0 12 rfl rfl)
theorem dX2_open_13 : decode cX2_open 13 = .ok (.ireturn, 1) := dk_172 (dk_at dksX2_open_0 13 rfl rfl)
theorem dX2_open_14 : decode cX2_open 14 = .ok (.aload_n 0, 1) := dk_42 (dk_at dksX2_open_0 14 rfl rfl)
theorem dX2_open_15 : decode cX2_open 15 = .ok (.iload_n 1, 1) := dk_27 (dk_at dksX2_open_0 15 rfl rfl)
theorem dX2_open_16 : decode cX2_open 16 = .ok (.iconst 1, 1) := dk_4 (dk_at dksX2_open_0 16 rfl rfl)
theorem dX2_open_17 : decode cX2_open 17 = .ok (.invokevirtual 67, 3) := dk_182 0 67 (dk_at dksX2_open_0 17 rfl rfl)
theorem dX2_open_20 : decode cX2_open 20 = .ok (.istore_n 3, 1) := dk_62 (dk_at dksX2_open_0 20 rfl rfl)
theorem dX2_open_21 : decode cX2_open 21 = .ok (.aload_n 0, 1) := dk_42 (dk_at dksX2_open_0 21 rfl rfl)
theorem dX2_open_22 : decode cX2_open 22 = .ok (.getfield 7, 3) := dk_180 0 7 (dk_at dksX2_open_1 0 rfl rfl)
theorem dX2_open_25 : decode cX2_open 25 = .ok (.iconst 3, 1) := dk_6 (dk_at dksX2_open_1 3 rfl rfl)
theorem dX2_open_26 : decode cX2_open 26 = .ok (.bipush 7, 2) := dk_16 7 (dk_at dksX2_open_1 4 rfl rfl)
theorem dX2_open_28 : decode cX2_open 28 = .ok (.iload_n 1, 1) := dk_27 (dk_at dksX2_open_1 6 rfl rfl)
theorem dX2_open_29 : decode cX2_open 29 = .ok (.imul, 1) := dk_104 (dk_at dksX2_open_1 7 rfl rfl)
theorem dX2_open_30 : decode cX2_open 30 = .ok (.iadd, 1) := dk_96 (dk_at dksX2_open_1 8 rfl rfl)
theorem dX2_open_31 : decode cX2_open 31 = .ok (.iconst 1, 1) := dk_4 (dk_at dksX2_open_1 9 rfl rfl)
theorem dX2_open_32 : decode cX2_open 32 = .ok (.iadd, 1) := dk_96 (dk_at dksX2_open_1 10 rfl rfl)
theorem dX2_open_33 : decode cX2_open 33 = .ok (.iload_n 2, 1) := dk_28 (dk_at dksX2_open_1 11 rfl rfl)
theorem dX2_open_34 : decode cX2_open 34 = .ok (.ifCond .eq 7, 3) := dk_153 0 7 (dk_at dksX2_open_1 12 rfl rfl)
theorem dX2_open_37 : decode cX2_open 37 = .ok (.iconst 1, 1) := dk_4 (dk_at dksX2_open_1 15 rfl rfl)
theorem dX2_open_38 : decode cX2_open 38 = .ok (.goto 4, 3) := dk_167 0 4 (dk_at dksX2_open_1 16 rfl rfl)
theorem dX2_open_41 : decode cX2_open 41 = .ok (.iconst 0, 1) := dk_3 (dk_at dksX2_open_1 19 rfl rfl)
theorem dX2_open_42 : decode cX2_open 42 = .ok (.iastore, 1) := dk_79 (dk_at dksX2_open_1 20 rfl rfl)
theorem dX2_open_43 : decode cX2_open 43 = .ok (.aload_n 0, 1) := dk_42 (dk_at dksX2_open_1 21 rfl rfl)
theorem dX2_open_44 : decode cX2_open 44 = .ok (.iload_n 3, 1) := dk_29 (dk_at dksX2_open_1 22 rfl rfl)
theorem dX2_open_45 : decode cX2_open 45 = .ok (.invokevirtual 84, 3) := dk_182 0 84 (dk_at dksX2_open_2 0 rfl rfl)
theorem dX2_open_48 : decode cX2_open 48 = .ok (.ireturn, 1) := dk_172 (dk_at dksX2_open_2 3 rfl rfl)
abbrev cX2_ofVersion : ByteArray := prog_24_method_19_code
def yX2_ofVersion : MethodName := ⟨RX2, "ofVersion", "(III)I"⟩
def dkwX2_ofVersion_3 : List UInt8 := [182, 0, 94, 172, 42, 27, 28, 182, 0, 97, 172, 16, 254, 172]
abbrev dktX2_ofVersion_3 : List UInt8 := dkwX2_ofVersion_3 ++ []
def dkwX2_ofVersion_2 : List UInt8 := [21, 4, 16, 100, 108, 172, 21, 4, 16, 10, 108, 16, 10, 112, 172, 21, 4, 16, 10, 112, 172, 42, 27, 28]
abbrev dktX2_ofVersion_2 : List UInt8 := dkwX2_ofVersion_2 ++ dktX2_ofVersion_3
def dkwX2_ofVersion_1 : List UInt8 := [170, 0, 0, 0, 0, 69, 0, 0, 0, 0, 0, 0, 0, 4, 0, 0, 0, 34, 0, 0, 0, 40, 0, 0, 0, 49, 0, 0, 0, 55, 0, 0, 0, 62]
abbrev dktX2_ofVersion_1 : List UInt8 := dkwX2_ofVersion_1 ++ dktX2_ofVersion_2
def dkwX2_ofVersion_0 : List UInt8 := [42, 27, 28, 182, 0, 90, 154, 0, 5, 2, 172, 42, 27, 5, 28, 96, 182, 0, 67, 54, 4, 29]
abbrev dktX2_ofVersion_0 : List UInt8 := dkwX2_ofVersion_0 ++ dktX2_ofVersion_1
theorem dksX2_ofVersion_0 : cX2_ofVersion.data.toList.drop 0 = dktX2_ofVersion_0 := by decide +kernel
theorem dksX2_ofVersion_1 : cX2_ofVersion.data.toList.drop 22 = dktX2_ofVersion_1 := dk_seg dksX2_ofVersion_0 22 rfl rfl
theorem dksX2_ofVersion_2 : cX2_ofVersion.data.toList.drop 56 = dktX2_ofVersion_2 := dk_seg dksX2_ofVersion_1 34 rfl rfl
theorem dksX2_ofVersion_3 : cX2_ofVersion.data.toList.drop 80 = dktX2_ofVersion_3 := dk_seg dksX2_ofVersion_2 24 rfl rfl
theorem dX2_ofVersion_0 : decode cX2_ofVersion 0 = .ok (.aload_n 0, 1) := dk_42 (dk_at dksX2_ofVersion_0 0 rfl rfl)
theorem dX2_ofVersion_1 : decode cX2_ofVersion 1 = .ok (.iload_n 1, 1) := dk_27 (dk_at dksX2_ofVersion_0 1 rfl rfl)
theorem dX2_ofVersion_2 : decode cX2_ofVersion 2 = .ok (.iload_n 2, 1) := dk_28 (dk_at dksX2_ofVersion_0 2 rfl rfl)
theorem dX2_ofVersion_3 : decode cX2_ofVersion 3 = .ok (.invokevirtual 90, 3) := dk_182 0 90 (dk_at dksX2_ofVersion_0 3 rfl rfl)
theorem dX2_ofVersion_6 : decode cX2_ofVersion 6 = .ok (.ifCond .ne 5, 3) := dk_154 0 5 (dk_at dksX2_ofVersion_0 6 rfl rfl)
theorem dX2_ofVersion_9 : decode cX2_ofVersion 9 = .ok (.iconst (-1), 1) := dk_2 (dk_at dksX2_ofVersion_0 9 rfl rfl)
theorem dX2_ofVersion_10 : decode cX2_ofVersion 10 = .ok (.ireturn, 1) := dk_172 (dk_at dksX2_ofVersion_0 10 rfl rfl)
theorem dX2_ofVersion_11 : decode cX2_ofVersion 11 = .ok (.aload_n 0, 1) := dk_42 (dk_at dksX2_ofVersion_0 11 rfl rfl)
theorem dX2_ofVersion_12 : decode cX2_ofVersion 12 = .ok (.iload_n 1, 1) := dk_27 (dk_at dksX2_ofVersion_0 12 rfl rfl)
theorem dX2_ofVersion_13 : decode cX2_ofVersion 13 = .ok (.iconst 2, 1) := dk_5 (dk_at dksX2_ofVersion_0 13 rfl rfl)
theorem dX2_ofVersion_14 : decode cX2_ofVersion 14 = .ok (.iload_n 2, 1) := dk_28 (dk_at dksX2_ofVersion_0 14 rfl rfl)
theorem dX2_ofVersion_15 : decode cX2_ofVersion 15 = .ok (.iadd, 1) := dk_96 (dk_at dksX2_ofVersion_0 15 rfl rfl)
theorem dX2_ofVersion_16 : decode cX2_ofVersion 16 = .ok (.invokevirtual 67, 3) := dk_182 0 67 (dk_at dksX2_ofVersion_0 16 rfl rfl)
theorem dX2_ofVersion_19 : decode cX2_ofVersion 19 = .ok (.istore 4, 2) := dk_54 4 (dk_at dksX2_ofVersion_0 19 rfl rfl)
theorem dX2_ofVersion_21 : decode cX2_ofVersion 21 = .ok (.iload_n 3, 1) := dk_29 (dk_at dksX2_ofVersion_0 21 rfl rfl)
theorem dX2_ofVersion_22 : decode cX2_ofVersion 22 = .ok (.tableswitch 69 0 4 #[34, 40, 49, 55, 62], 34) := by decide +kernel
theorem dX2_ofVersion_56 : decode cX2_ofVersion 56 = .ok (.iload 4, 2) := dk_21 4 (dk_at dksX2_ofVersion_2 0 rfl rfl)
theorem dX2_ofVersion_58 : decode cX2_ofVersion 58 = .ok (.bipush 100, 2) := dk_16 100 (dk_at dksX2_ofVersion_2 2 rfl rfl)
theorem dX2_ofVersion_60 : decode cX2_ofVersion 60 = .ok (.idiv, 1) := dk_108 (dk_at dksX2_ofVersion_2 4 rfl rfl)
theorem dX2_ofVersion_61 : decode cX2_ofVersion 61 = .ok (.ireturn, 1) := dk_172 (dk_at dksX2_ofVersion_2 5 rfl rfl)
theorem dX2_ofVersion_62 : decode cX2_ofVersion 62 = .ok (.iload 4, 2) := dk_21 4 (dk_at dksX2_ofVersion_2 6 rfl rfl)
theorem dX2_ofVersion_64 : decode cX2_ofVersion 64 = .ok (.bipush 10, 2) := dk_16 10 (dk_at dksX2_ofVersion_2 8 rfl rfl)
theorem dX2_ofVersion_66 : decode cX2_ofVersion 66 = .ok (.idiv, 1) := dk_108 (dk_at dksX2_ofVersion_2 10 rfl rfl)
theorem dX2_ofVersion_67 : decode cX2_ofVersion 67 = .ok (.bipush 10, 2) := dk_16 10 (dk_at dksX2_ofVersion_2 11 rfl rfl)
theorem dX2_ofVersion_69 : decode cX2_ofVersion 69 = .ok (.irem, 1) := dk_112 (dk_at dksX2_ofVersion_2 13 rfl rfl)
theorem dX2_ofVersion_70 : decode cX2_ofVersion 70 = .ok (.ireturn, 1) := dk_172 (dk_at dksX2_ofVersion_2 14 rfl rfl)
theorem dX2_ofVersion_71 : decode cX2_ofVersion 71 = .ok (.iload 4, 2) := dk_21 4 (dk_at dksX2_ofVersion_2 15 rfl rfl)
theorem dX2_ofVersion_73 : decode cX2_ofVersion 73 = .ok (.bipush 10, 2) := dk_16 10 (dk_at dksX2_ofVersion_2 17 rfl rfl)
theorem dX2_ofVersion_75 : decode cX2_ofVersion 75 = .ok (.irem, 1) := dk_112 (dk_at dksX2_ofVersion_2 19 rfl rfl)
theorem dX2_ofVersion_76 : decode cX2_ofVersion 76 = .ok (.ireturn, 1) := dk_172 (dk_at dksX2_ofVersion_2 20 rfl rfl)
theorem dX2_ofVersion_77 : decode cX2_ofVersion 77 = .ok (.aload_n 0, 1) := dk_42 (dk_at dksX2_ofVersion_2 21 rfl rfl)
theorem dX2_ofVersion_78 : decode cX2_ofVersion 78 = .ok (.iload_n 1, 1) := dk_27 (dk_at dksX2_ofVersion_2 22 rfl rfl)
theorem dX2_ofVersion_79 : decode cX2_ofVersion 79 = .ok (.iload_n 2, 1) := dk_28 (dk_at dksX2_ofVersion_2 23 rfl rfl)
theorem dX2_ofVersion_80 : decode cX2_ofVersion 80 = .ok (.invokevirtual 94, 3) := dk_182 0 94 (dk_at dksX2_ofVersion_3 0 rfl rfl)
theorem dX2_ofVersion_83 : decode cX2_ofVersion 83 = .ok (.ireturn, 1) := dk_172 (dk_at dksX2_ofVersion_3 3 rfl rfl)
theorem dX2_ofVersion_84 : decode cX2_ofVersion 84 = .ok (.aload_n 0, 1) := dk_42 (dk_at dksX2_ofVersion_3 4 rfl rfl)
theorem dX2_ofVersion_85 : decode cX2_ofVersion 85 = .ok (.iload_n 1, 1) := dk_27 (dk_at dksX2_ofVersion_3 5 rfl rfl)
theorem dX2_ofVersion_86 : decode cX2_ofVersion 86 = .ok (.iload_n 2, 1) := dk_28 (dk_at dksX2_ofVersion_3 6 rfl rfl)
theorem dX2_ofVersion_87 : decode cX2_ofVersion 87 = .ok (.invokevirtual 97, 3) := dk_182 0 97 (dk_at dksX2_ofVersion_3 7 rfl rfl)
theorem dX2_ofVersion_90 : decode cX2_ofVersion 90 = .ok (.ireturn, 1) := dk_172 (dk_at dksX2_ofVersion_3 10 rfl rfl)
theorem dX2_ofVersion_91 : decode cX2_ofVersion 91 = .ok (.bipush (-2), 2) := dk_16 254 (dk_at dksX2_ofVersion_3 11 rfl rfl)
theorem dX2_ofVersion_93 : decode cX2_ofVersion 93 = .ok (.ireturn, 1) := dk_172 (dk_at dksX2_ofVersion_3 13 rfl rfl)
abbrev cX2_isVersion : ByteArray := prog_24_method_6_code
def yX2_isVersion : MethodName := ⟨RX2, "isVersion", "(II)Z"⟩
def dkwX2_isVersion_1 : List UInt8 := [4, 167, 0, 4, 3, 172]
abbrev dktX2_isVersion_1 : List UInt8 := dkwX2_isVersion_1 ++ []
def dkwX2_isVersion_0 : List UInt8 := [42, 27, 182, 0, 63, 153, 0, 23, 28, 3, 42, 27, 3, 182, 0, 67, 4, 100, 184, 0, 59, 153, 0, 7]
abbrev dktX2_isVersion_0 : List UInt8 := dkwX2_isVersion_0 ++ dktX2_isVersion_1
theorem dksX2_isVersion_0 : cX2_isVersion.data.toList.drop 0 = dktX2_isVersion_0 := by decide +kernel
theorem dksX2_isVersion_1 : cX2_isVersion.data.toList.drop 24 = dktX2_isVersion_1 := dk_seg dksX2_isVersion_0 24 rfl rfl
theorem dX2_isVersion_0 : decode cX2_isVersion 0 = .ok (.aload_n 0, 1) := dk_42 (dk_at dksX2_isVersion_0 0 rfl rfl)
theorem dX2_isVersion_1 : decode cX2_isVersion 1 = .ok (.iload_n 1, 1) := dk_27 (dk_at dksX2_isVersion_0 1 rfl rfl)
theorem dX2_isVersion_2 : decode cX2_isVersion 2 = .ok (.invokevirtual 63, 3) := dk_182 0 63 (dk_at dksX2_isVersion_0 2 rfl rfl)
theorem dX2_isVersion_5 : decode cX2_isVersion 5 = .ok (.ifCond .eq 23, 3) := dk_153 0 23 (dk_at dksX2_isVersion_0 5 rfl rfl)
theorem dX2_isVersion_8 : decode cX2_isVersion 8 = .ok (.iload_n 2, 1) := dk_28 (dk_at dksX2_isVersion_0 8 rfl rfl)
theorem dX2_isVersion_9 : decode cX2_isVersion 9 = .ok (.iconst 0, 1) := dk_3 (dk_at dksX2_isVersion_0 9 rfl rfl)
theorem dX2_isVersion_10 : decode cX2_isVersion 10 = .ok (.aload_n 0, 1) := dk_42 (dk_at dksX2_isVersion_0 10 rfl rfl)
theorem dX2_isVersion_11 : decode cX2_isVersion 11 = .ok (.iload_n 1, 1) := dk_27 (dk_at dksX2_isVersion_0 11 rfl rfl)
theorem dX2_isVersion_12 : decode cX2_isVersion 12 = .ok (.iconst 0, 1) := dk_3 (dk_at dksX2_isVersion_0 12 rfl rfl)
theorem dX2_isVersion_13 : decode cX2_isVersion 13 = .ok (.invokevirtual 67, 3) := dk_182 0 67 (dk_at dksX2_isVersion_0 13 rfl rfl)
theorem dX2_isVersion_16 : decode cX2_isVersion 16 = .ok (.iconst 1, 1) := dk_4 (dk_at dksX2_isVersion_0 16 rfl rfl)
theorem dX2_isVersion_17 : decode cX2_isVersion 17 = .ok (.isub, 1) := dk_100 (dk_at dksX2_isVersion_0 17 rfl rfl)
theorem dX2_isVersion_18 : decode cX2_isVersion 18 = .ok (.invokestatic 59, 3) := dk_184 0 59 (dk_at dksX2_isVersion_0 18 rfl rfl)
theorem dX2_isVersion_21 : decode cX2_isVersion 21 = .ok (.ifCond .eq 7, 3) := dk_153 0 7 (dk_at dksX2_isVersion_0 21 rfl rfl)
theorem dX2_isVersion_24 : decode cX2_isVersion 24 = .ok (.iconst 1, 1) := dk_4 (dk_at dksX2_isVersion_1 0 rfl rfl)
theorem dX2_isVersion_25 : decode cX2_isVersion 25 = .ok (.goto 4, 3) := dk_167 0 4 (dk_at dksX2_isVersion_1 1 rfl rfl)
theorem dX2_isVersion_28 : decode cX2_isVersion 28 = .ok (.iconst 0, 1) := dk_3 (dk_at dksX2_isVersion_1 4 rfl rfl)
theorem dX2_isVersion_29 : decode cX2_isVersion 29 = .ok (.ireturn, 1) := dk_172 (dk_at dksX2_isVersion_1 5 rfl rfl)
abbrev cX2_beforeOf : ByteArray := prog_24_method_17_code
def yX2_beforeOf : MethodName := ⟨RX2, "beforeOf", "(II)I"⟩
def dkwX2_beforeOf_2 : List UInt8 := [3, 96, 62, 132, 4, 1, 167, 255, 208, 29, 172]
abbrev dktX2_beforeOf_2 : List UInt8 := dkwX2_beforeOf_2 ++ []
def dkwX2_beforeOf_1 : List UInt8 := [182, 0, 67, 184, 0, 74, 42, 27, 5, 28, 96, 182, 0, 67, 184, 0, 74, 162, 0, 7, 4, 167, 0, 4]
abbrev dktX2_beforeOf_1 : List UInt8 := dkwX2_beforeOf_1 ++ dktX2_beforeOf_2
def dkwX2_beforeOf_0 : List UInt8 := [3, 62, 3, 54, 4, 21, 4, 42, 27, 3, 182, 0, 67, 162, 0, 43, 29, 42, 27, 5, 21, 4, 96]
abbrev dktX2_beforeOf_0 : List UInt8 := dkwX2_beforeOf_0 ++ dktX2_beforeOf_1
theorem dksX2_beforeOf_0 : cX2_beforeOf.data.toList.drop 0 = dktX2_beforeOf_0 := by decide +kernel
theorem dksX2_beforeOf_1 : cX2_beforeOf.data.toList.drop 23 = dktX2_beforeOf_1 := dk_seg dksX2_beforeOf_0 23 rfl rfl
theorem dksX2_beforeOf_2 : cX2_beforeOf.data.toList.drop 47 = dktX2_beforeOf_2 := dk_seg dksX2_beforeOf_1 24 rfl rfl
theorem dX2_beforeOf_0 : decode cX2_beforeOf 0 = .ok (.iconst 0, 1) := dk_3 (dk_at dksX2_beforeOf_0 0 rfl rfl)
theorem dX2_beforeOf_1 : decode cX2_beforeOf 1 = .ok (.istore_n 3, 1) := dk_62 (dk_at dksX2_beforeOf_0 1 rfl rfl)
theorem dX2_beforeOf_2 : decode cX2_beforeOf 2 = .ok (.iconst 0, 1) := dk_3 (dk_at dksX2_beforeOf_0 2 rfl rfl)
theorem dX2_beforeOf_3 : decode cX2_beforeOf 3 = .ok (.istore 4, 2) := dk_54 4 (dk_at dksX2_beforeOf_0 3 rfl rfl)
theorem dX2_beforeOf_5 : decode cX2_beforeOf 5 = .ok (.iload 4, 2) := dk_21 4 (dk_at dksX2_beforeOf_0 5 rfl rfl)
theorem dX2_beforeOf_7 : decode cX2_beforeOf 7 = .ok (.aload_n 0, 1) := dk_42 (dk_at dksX2_beforeOf_0 7 rfl rfl)
theorem dX2_beforeOf_8 : decode cX2_beforeOf 8 = .ok (.iload_n 1, 1) := dk_27 (dk_at dksX2_beforeOf_0 8 rfl rfl)
theorem dX2_beforeOf_9 : decode cX2_beforeOf 9 = .ok (.iconst 0, 1) := dk_3 (dk_at dksX2_beforeOf_0 9 rfl rfl)
theorem dX2_beforeOf_10 : decode cX2_beforeOf 10 = .ok (.invokevirtual 67, 3) := dk_182 0 67 (dk_at dksX2_beforeOf_0 10 rfl rfl)
theorem dX2_beforeOf_13 : decode cX2_beforeOf 13 = .ok (.if_icmp .ge 43, 3) := dk_162 0 43 (dk_at dksX2_beforeOf_0 13 rfl rfl)
theorem dX2_beforeOf_16 : decode cX2_beforeOf 16 = .ok (.iload_n 3, 1) := dk_29 (dk_at dksX2_beforeOf_0 16 rfl rfl)
theorem dX2_beforeOf_17 : decode cX2_beforeOf 17 = .ok (.aload_n 0, 1) := dk_42 (dk_at dksX2_beforeOf_0 17 rfl rfl)
theorem dX2_beforeOf_18 : decode cX2_beforeOf 18 = .ok (.iload_n 1, 1) := dk_27 (dk_at dksX2_beforeOf_0 18 rfl rfl)
theorem dX2_beforeOf_19 : decode cX2_beforeOf 19 = .ok (.iconst 2, 1) := dk_5 (dk_at dksX2_beforeOf_0 19 rfl rfl)
theorem dX2_beforeOf_20 : decode cX2_beforeOf 20 = .ok (.iload 4, 2) := dk_21 4 (dk_at dksX2_beforeOf_0 20 rfl rfl)
theorem dX2_beforeOf_22 : decode cX2_beforeOf 22 = .ok (.iadd, 1) := dk_96 (dk_at dksX2_beforeOf_0 22 rfl rfl)
theorem dX2_beforeOf_23 : decode cX2_beforeOf 23 = .ok (.invokevirtual 67, 3) := dk_182 0 67 (dk_at dksX2_beforeOf_1 0 rfl rfl)
theorem dX2_beforeOf_26 : decode cX2_beforeOf 26 = .ok (.invokestatic 74, 3) := dk_184 0 74 (dk_at dksX2_beforeOf_1 3 rfl rfl)
theorem dX2_beforeOf_29 : decode cX2_beforeOf 29 = .ok (.aload_n 0, 1) := dk_42 (dk_at dksX2_beforeOf_1 6 rfl rfl)
theorem dX2_beforeOf_30 : decode cX2_beforeOf 30 = .ok (.iload_n 1, 1) := dk_27 (dk_at dksX2_beforeOf_1 7 rfl rfl)
theorem dX2_beforeOf_31 : decode cX2_beforeOf 31 = .ok (.iconst 2, 1) := dk_5 (dk_at dksX2_beforeOf_1 8 rfl rfl)
theorem dX2_beforeOf_32 : decode cX2_beforeOf 32 = .ok (.iload_n 2, 1) := dk_28 (dk_at dksX2_beforeOf_1 9 rfl rfl)
theorem dX2_beforeOf_33 : decode cX2_beforeOf 33 = .ok (.iadd, 1) := dk_96 (dk_at dksX2_beforeOf_1 10 rfl rfl)
theorem dX2_beforeOf_34 : decode cX2_beforeOf 34 = .ok (.invokevirtual 67, 3) := dk_182 0 67 (dk_at dksX2_beforeOf_1 11 rfl rfl)
theorem dX2_beforeOf_37 : decode cX2_beforeOf 37 = .ok (.invokestatic 74, 3) := dk_184 0 74 (dk_at dksX2_beforeOf_1 14 rfl rfl)
theorem dX2_beforeOf_40 : decode cX2_beforeOf 40 = .ok (.if_icmp .ge 7, 3) := dk_162 0 7 (dk_at dksX2_beforeOf_1 17 rfl rfl)
theorem dX2_beforeOf_43 : decode cX2_beforeOf 43 = .ok (.iconst 1, 1) := dk_4 (dk_at dksX2_beforeOf_1 20 rfl rfl)
theorem dX2_beforeOf_44 : decode cX2_beforeOf 44 = .ok (.goto 4, 3) := dk_167 0 4 (dk_at dksX2_beforeOf_1 21 rfl rfl)
theorem dX2_beforeOf_47 : decode cX2_beforeOf 47 = .ok (.iconst 0, 1) := dk_3 (dk_at dksX2_beforeOf_2 0 rfl rfl)
theorem dX2_beforeOf_48 : decode cX2_beforeOf 48 = .ok (.iadd, 1) := dk_96 (dk_at dksX2_beforeOf_2 1 rfl rfl)
theorem dX2_beforeOf_49 : decode cX2_beforeOf 49 = .ok (.istore_n 3, 1) := dk_62 (dk_at dksX2_beforeOf_2 2 rfl rfl)
theorem dX2_beforeOf_50 : decode cX2_beforeOf 50 = .ok (.iinc 4 1, 3) := dk_132 4 1 (dk_at dksX2_beforeOf_2 3 rfl rfl)
theorem dX2_beforeOf_53 : decode cX2_beforeOf 53 = .ok (.goto (-48), 3) := dk_167 255 208 (dk_at dksX2_beforeOf_2 6 rfl rfl)
theorem dX2_beforeOf_56 : decode cX2_beforeOf 56 = .ok (.iload_n 3, 1) := dk_29 (dk_at dksX2_beforeOf_2 9 rfl rfl)
theorem dX2_beforeOf_57 : decode cX2_beforeOf 57 = .ok (.ireturn, 1) := dk_172 (dk_at dksX2_beforeOf_2 10 rfl rfl)
abbrev cX2_order : ByteArray := prog_24_method_11_code
def yX2_order : MethodName := ⟨RX2, "order", "(I)I"⟩
def dkwX2_order_1 : List UInt8 := [172]
abbrev dktX2_order_1 : List UInt8 := dkwX2_order_1 ++ []
def dkwX2_order_0 : List UInt8 := [26, 16, 10, 108, 16, 11, 104, 26, 16, 10, 112, 154, 0, 8, 16, 10, 167, 0, 7, 26, 16, 10, 112, 96]
abbrev dktX2_order_0 : List UInt8 := dkwX2_order_0 ++ dktX2_order_1
theorem dksX2_order_0 : cX2_order.data.toList.drop 0 = dktX2_order_0 := by decide +kernel
theorem dksX2_order_1 : cX2_order.data.toList.drop 24 = dktX2_order_1 := dk_seg dksX2_order_0 24 rfl rfl
theorem dX2_order_0 : decode cX2_order 0 = .ok (.iload_n 0, 1) := dk_26 (dk_at dksX2_order_0 0 rfl rfl)
theorem dX2_order_1 : decode cX2_order 1 = .ok (.bipush 10, 2) := dk_16 10 (dk_at dksX2_order_0 1 rfl rfl)
theorem dX2_order_3 : decode cX2_order 3 = .ok (.idiv, 1) := dk_108 (dk_at dksX2_order_0 3 rfl rfl)
theorem dX2_order_4 : decode cX2_order 4 = .ok (.bipush 11, 2) := dk_16 11 (dk_at dksX2_order_0 4 rfl rfl)
theorem dX2_order_6 : decode cX2_order 6 = .ok (.imul, 1) := dk_104 (dk_at dksX2_order_0 6 rfl rfl)
theorem dX2_order_7 : decode cX2_order 7 = .ok (.iload_n 0, 1) := dk_26 (dk_at dksX2_order_0 7 rfl rfl)
theorem dX2_order_8 : decode cX2_order 8 = .ok (.bipush 10, 2) := dk_16 10 (dk_at dksX2_order_0 8 rfl rfl)
theorem dX2_order_10 : decode cX2_order 10 = .ok (.irem, 1) := dk_112 (dk_at dksX2_order_0 10 rfl rfl)
theorem dX2_order_11 : decode cX2_order 11 = .ok (.ifCond .ne 8, 3) := dk_154 0 8 (dk_at dksX2_order_0 11 rfl rfl)
theorem dX2_order_14 : decode cX2_order 14 = .ok (.bipush 10, 2) := dk_16 10 (dk_at dksX2_order_0 14 rfl rfl)
theorem dX2_order_16 : decode cX2_order 16 = .ok (.goto 7, 3) := dk_167 0 7 (dk_at dksX2_order_0 16 rfl rfl)
theorem dX2_order_19 : decode cX2_order 19 = .ok (.iload_n 0, 1) := dk_26 (dk_at dksX2_order_0 19 rfl rfl)
theorem dX2_order_20 : decode cX2_order 20 = .ok (.bipush 10, 2) := dk_16 10 (dk_at dksX2_order_0 20 rfl rfl)
theorem dX2_order_22 : decode cX2_order 22 = .ok (.irem, 1) := dk_112 (dk_at dksX2_order_0 22 rfl rfl)
theorem dX2_order_23 : decode cX2_order 23 = .ok (.iadd, 1) := dk_96 (dk_at dksX2_order_0 23 rfl rfl)
theorem dX2_order_24 : decode cX2_order 24 = .ok (.ireturn, 1) := dk_172 (dk_at dksX2_order_1 0 rfl rfl)
abbrev cX2_rulesOf : ByteArray := prog_24_method_18_code
def yX2_rulesOf : MethodName := ⟨RX2, "rulesOf", "(II)I"⟩
def dkwX2_rulesOf_2 : List UInt8 := [182, 0, 87, 28, 160, 0, 7, 4, 167, 0, 4, 3, 96, 62, 132, 4, 1, 167, 255, 197, 29, 172]
abbrev dktX2_rulesOf_2 : List UInt8 := dkwX2_rulesOf_2 ++ []
def dkwX2_rulesOf_1 : List UInt8 := [4, 5, 184, 0, 59, 153, 0, 29, 42, 21, 4, 4, 182, 0, 87, 27, 160, 0, 18, 42, 21, 4, 5]
abbrev dktX2_rulesOf_1 : List UInt8 := dkwX2_rulesOf_1 ++ dktX2_rulesOf_2
def dkwX2_rulesOf_0 : List UInt8 := [3, 62, 3, 54, 4, 21, 4, 42, 180, 0, 7, 4, 46, 162, 0, 54, 29, 42, 21, 4, 3, 182, 0, 87]
abbrev dktX2_rulesOf_0 : List UInt8 := dkwX2_rulesOf_0 ++ dktX2_rulesOf_1
theorem dksX2_rulesOf_0 : cX2_rulesOf.data.toList.drop 0 = dktX2_rulesOf_0 := by decide +kernel
theorem dksX2_rulesOf_1 : cX2_rulesOf.data.toList.drop 24 = dktX2_rulesOf_1 := dk_seg dksX2_rulesOf_0 24 rfl rfl
theorem dksX2_rulesOf_2 : cX2_rulesOf.data.toList.drop 47 = dktX2_rulesOf_2 := dk_seg dksX2_rulesOf_1 23 rfl rfl
theorem dX2_rulesOf_0 : decode cX2_rulesOf 0 = .ok (.iconst 0, 1) := dk_3 (dk_at dksX2_rulesOf_0 0 rfl rfl)
theorem dX2_rulesOf_1 : decode cX2_rulesOf 1 = .ok (.istore_n 3, 1) := dk_62 (dk_at dksX2_rulesOf_0 1 rfl rfl)
theorem dX2_rulesOf_2 : decode cX2_rulesOf 2 = .ok (.iconst 0, 1) := dk_3 (dk_at dksX2_rulesOf_0 2 rfl rfl)
theorem dX2_rulesOf_3 : decode cX2_rulesOf 3 = .ok (.istore 4, 2) := dk_54 4 (dk_at dksX2_rulesOf_0 3 rfl rfl)
theorem dX2_rulesOf_5 : decode cX2_rulesOf 5 = .ok (.iload 4, 2) := dk_21 4 (dk_at dksX2_rulesOf_0 5 rfl rfl)
theorem dX2_rulesOf_7 : decode cX2_rulesOf 7 = .ok (.aload_n 0, 1) := dk_42 (dk_at dksX2_rulesOf_0 7 rfl rfl)
theorem dX2_rulesOf_8 : decode cX2_rulesOf 8 = .ok (.getfield 7, 3) := dk_180 0 7 (dk_at dksX2_rulesOf_0 8 rfl rfl)
theorem dX2_rulesOf_11 : decode cX2_rulesOf 11 = .ok (.iconst 1, 1) := dk_4 (dk_at dksX2_rulesOf_0 11 rfl rfl)
theorem dX2_rulesOf_12 : decode cX2_rulesOf 12 = .ok (.iaload, 1) := dk_46 (dk_at dksX2_rulesOf_0 12 rfl rfl)
theorem dX2_rulesOf_13 : decode cX2_rulesOf 13 = .ok (.if_icmp .ge 54, 3) := dk_162 0 54 (dk_at dksX2_rulesOf_0 13 rfl rfl)
theorem dX2_rulesOf_16 : decode cX2_rulesOf 16 = .ok (.iload_n 3, 1) := dk_29 (dk_at dksX2_rulesOf_0 16 rfl rfl)
theorem dX2_rulesOf_17 : decode cX2_rulesOf 17 = .ok (.aload_n 0, 1) := dk_42 (dk_at dksX2_rulesOf_0 17 rfl rfl)
theorem dX2_rulesOf_18 : decode cX2_rulesOf 18 = .ok (.iload 4, 2) := dk_21 4 (dk_at dksX2_rulesOf_0 18 rfl rfl)
theorem dX2_rulesOf_20 : decode cX2_rulesOf 20 = .ok (.iconst 0, 1) := dk_3 (dk_at dksX2_rulesOf_0 20 rfl rfl)
theorem dX2_rulesOf_21 : decode cX2_rulesOf 21 = .ok (.invokevirtual 87, 3) := dk_182 0 87 (dk_at dksX2_rulesOf_0 21 rfl rfl)
theorem dX2_rulesOf_24 : decode cX2_rulesOf 24 = .ok (.iconst 1, 1) := dk_4 (dk_at dksX2_rulesOf_1 0 rfl rfl)
theorem dX2_rulesOf_25 : decode cX2_rulesOf 25 = .ok (.iconst 2, 1) := dk_5 (dk_at dksX2_rulesOf_1 1 rfl rfl)
theorem dX2_rulesOf_26 : decode cX2_rulesOf 26 = .ok (.invokestatic 59, 3) := dk_184 0 59 (dk_at dksX2_rulesOf_1 2 rfl rfl)
theorem dX2_rulesOf_29 : decode cX2_rulesOf 29 = .ok (.ifCond .eq 29, 3) := dk_153 0 29 (dk_at dksX2_rulesOf_1 5 rfl rfl)
theorem dX2_rulesOf_32 : decode cX2_rulesOf 32 = .ok (.aload_n 0, 1) := dk_42 (dk_at dksX2_rulesOf_1 8 rfl rfl)
theorem dX2_rulesOf_33 : decode cX2_rulesOf 33 = .ok (.iload 4, 2) := dk_21 4 (dk_at dksX2_rulesOf_1 9 rfl rfl)
theorem dX2_rulesOf_35 : decode cX2_rulesOf 35 = .ok (.iconst 1, 1) := dk_4 (dk_at dksX2_rulesOf_1 11 rfl rfl)
theorem dX2_rulesOf_36 : decode cX2_rulesOf 36 = .ok (.invokevirtual 87, 3) := dk_182 0 87 (dk_at dksX2_rulesOf_1 12 rfl rfl)
theorem dX2_rulesOf_39 : decode cX2_rulesOf 39 = .ok (.iload_n 1, 1) := dk_27 (dk_at dksX2_rulesOf_1 15 rfl rfl)
theorem dX2_rulesOf_40 : decode cX2_rulesOf 40 = .ok (.if_icmp .ne 18, 3) := dk_160 0 18 (dk_at dksX2_rulesOf_1 16 rfl rfl)
theorem dX2_rulesOf_43 : decode cX2_rulesOf 43 = .ok (.aload_n 0, 1) := dk_42 (dk_at dksX2_rulesOf_1 19 rfl rfl)
theorem dX2_rulesOf_44 : decode cX2_rulesOf 44 = .ok (.iload 4, 2) := dk_21 4 (dk_at dksX2_rulesOf_1 20 rfl rfl)
theorem dX2_rulesOf_46 : decode cX2_rulesOf 46 = .ok (.iconst 2, 1) := dk_5 (dk_at dksX2_rulesOf_1 22 rfl rfl)
theorem dX2_rulesOf_47 : decode cX2_rulesOf 47 = .ok (.invokevirtual 87, 3) := dk_182 0 87 (dk_at dksX2_rulesOf_2 0 rfl rfl)
theorem dX2_rulesOf_50 : decode cX2_rulesOf 50 = .ok (.iload_n 2, 1) := dk_28 (dk_at dksX2_rulesOf_2 3 rfl rfl)
theorem dX2_rulesOf_51 : decode cX2_rulesOf 51 = .ok (.if_icmp .ne 7, 3) := dk_160 0 7 (dk_at dksX2_rulesOf_2 4 rfl rfl)
theorem dX2_rulesOf_54 : decode cX2_rulesOf 54 = .ok (.iconst 1, 1) := dk_4 (dk_at dksX2_rulesOf_2 7 rfl rfl)
theorem dX2_rulesOf_55 : decode cX2_rulesOf 55 = .ok (.goto 4, 3) := dk_167 0 4 (dk_at dksX2_rulesOf_2 8 rfl rfl)
theorem dX2_rulesOf_58 : decode cX2_rulesOf 58 = .ok (.iconst 0, 1) := dk_3 (dk_at dksX2_rulesOf_2 11 rfl rfl)
theorem dX2_rulesOf_59 : decode cX2_rulesOf 59 = .ok (.iadd, 1) := dk_96 (dk_at dksX2_rulesOf_2 12 rfl rfl)
theorem dX2_rulesOf_60 : decode cX2_rulesOf 60 = .ok (.istore_n 3, 1) := dk_62 (dk_at dksX2_rulesOf_2 13 rfl rfl)
theorem dX2_rulesOf_61 : decode cX2_rulesOf 61 = .ok (.iinc 4 1, 3) := dk_132 4 1 (dk_at dksX2_rulesOf_2 14 rfl rfl)
theorem dX2_rulesOf_64 : decode cX2_rulesOf 64 = .ok (.goto (-59), 3) := dk_167 255 197 (dk_at dksX2_rulesOf_2 17 rfl rfl)
theorem dX2_rulesOf_67 : decode cX2_rulesOf 67 = .ok (.iload_n 3, 1) := dk_29 (dk_at dksX2_rulesOf_2 20 rfl rfl)
theorem dX2_rulesOf_68 : decode cX2_rulesOf 68 = .ok (.ireturn, 1) := dk_172 (dk_at dksX2_rulesOf_2 21 rfl rfl)
abbrev cX2_ofRule : ByteArray := prog_24_method_4_code
def yX2_ofRule : MethodName := ⟨RX2, "ofRule", "(II)I"⟩
def dkwX2_ofRule_0 : List UInt8 := [42, 180, 0, 7, 16, 45, 16, 6, 27, 104, 96, 28, 96, 46, 172]
abbrev dktX2_ofRule_0 : List UInt8 := dkwX2_ofRule_0 ++ []
theorem dksX2_ofRule_0 : cX2_ofRule.data.toList.drop 0 = dktX2_ofRule_0 := by decide +kernel
theorem dX2_ofRule_0 : decode cX2_ofRule 0 = .ok (.aload_n 0, 1) := dk_42 (dk_at dksX2_ofRule_0 0 rfl rfl)
theorem dX2_ofRule_1 : decode cX2_ofRule 1 = .ok (.getfield 7, 3) := dk_180 0 7 (dk_at dksX2_ofRule_0 1 rfl rfl)
theorem dX2_ofRule_4 : decode cX2_ofRule 4 = .ok (.bipush 45, 2) := dk_16 45 (dk_at dksX2_ofRule_0 4 rfl rfl)
theorem dX2_ofRule_6 : decode cX2_ofRule 6 = .ok (.bipush 6, 2) := dk_16 6 (dk_at dksX2_ofRule_0 6 rfl rfl)
theorem dX2_ofRule_8 : decode cX2_ofRule 8 = .ok (.iload_n 1, 1) := dk_27 (dk_at dksX2_ofRule_0 8 rfl rfl)
theorem dX2_ofRule_9 : decode cX2_ofRule 9 = .ok (.imul, 1) := dk_104 (dk_at dksX2_ofRule_0 9 rfl rfl)
theorem dX2_ofRule_10 : decode cX2_ofRule 10 = .ok (.iadd, 1) := dk_96 (dk_at dksX2_ofRule_0 10 rfl rfl)
theorem dX2_ofRule_11 : decode cX2_ofRule 11 = .ok (.iload_n 2, 1) := dk_28 (dk_at dksX2_ofRule_0 11 rfl rfl)
theorem dX2_ofRule_12 : decode cX2_ofRule 12 = .ok (.iadd, 1) := dk_96 (dk_at dksX2_ofRule_0 12 rfl rfl)
theorem dX2_ofRule_13 : decode cX2_ofRule 13 = .ok (.iaload, 1) := dk_46 (dk_at dksX2_ofRule_0 13 rfl rfl)
theorem dX2_ofRule_14 : decode cX2_ofRule 14 = .ok (.ireturn, 1) := dk_172 (dk_at dksX2_ofRule_0 14 rfl rfl)
abbrev cX2_covers : ByteArray := prog_24_method_20_code
def yX2_covers : MethodName := ⟨RX2, "covers", "(II)I"⟩
def dkwX2_covers_1 : List UInt8 := [182, 0, 103, 167, 0, 5, 16, 254, 172]
abbrev dktX2_covers_1 : List UInt8 := dkwX2_covers_1 ++ []
def dkwX2_covers_0 : List UInt8 := [42, 27, 182, 0, 63, 154, 0, 7, 2, 167, 0, 21, 28, 184, 0, 100, 153, 0, 12, 42, 27, 28]
abbrev dktX2_covers_0 : List UInt8 := dkwX2_covers_0 ++ dktX2_covers_1
theorem dksX2_covers_0 : cX2_covers.data.toList.drop 0 = dktX2_covers_0 := by decide +kernel
theorem dksX2_covers_1 : cX2_covers.data.toList.drop 22 = dktX2_covers_1 := dk_seg dksX2_covers_0 22 rfl rfl
theorem dX2_covers_0 : decode cX2_covers 0 = .ok (.aload_n 0, 1) := dk_42 (dk_at dksX2_covers_0 0 rfl rfl)
theorem dX2_covers_1 : decode cX2_covers 1 = .ok (.iload_n 1, 1) := dk_27 (dk_at dksX2_covers_0 1 rfl rfl)
theorem dX2_covers_2 : decode cX2_covers 2 = .ok (.invokevirtual 63, 3) := dk_182 0 63 (dk_at dksX2_covers_0 2 rfl rfl)
theorem dX2_covers_5 : decode cX2_covers 5 = .ok (.ifCond .ne 7, 3) := dk_154 0 7 (dk_at dksX2_covers_0 5 rfl rfl)
theorem dX2_covers_8 : decode cX2_covers 8 = .ok (.iconst (-1), 1) := dk_2 (dk_at dksX2_covers_0 8 rfl rfl)
theorem dX2_covers_9 : decode cX2_covers 9 = .ok (.goto 21, 3) := dk_167 0 21 (dk_at dksX2_covers_0 9 rfl rfl)
theorem dX2_covers_12 : decode cX2_covers 12 = .ok (.iload_n 2, 1) := dk_28 (dk_at dksX2_covers_0 12 rfl rfl)
theorem dX2_covers_13 : decode cX2_covers 13 = .ok (.invokestatic 100, 3) := dk_184 0 100 (dk_at dksX2_covers_0 13 rfl rfl)
theorem dX2_covers_16 : decode cX2_covers 16 = .ok (.ifCond .eq 12, 3) := dk_153 0 12 (dk_at dksX2_covers_0 16 rfl rfl)
theorem dX2_covers_19 : decode cX2_covers 19 = .ok (.aload_n 0, 1) := dk_42 (dk_at dksX2_covers_0 19 rfl rfl)
theorem dX2_covers_20 : decode cX2_covers 20 = .ok (.iload_n 1, 1) := dk_27 (dk_at dksX2_covers_0 20 rfl rfl)
theorem dX2_covers_21 : decode cX2_covers 21 = .ok (.iload_n 2, 1) := dk_28 (dk_at dksX2_covers_0 21 rfl rfl)
theorem dX2_covers_22 : decode cX2_covers 22 = .ok (.invokevirtual 103, 3) := dk_182 0 103 (dk_at dksX2_covers_1 0 rfl rfl)
theorem dX2_covers_25 : decode cX2_covers 25 = .ok (.goto 5, 3) := dk_167 0 5 (dk_at dksX2_covers_1 3 rfl rfl)
theorem dX2_covers_28 : decode cX2_covers 28 = .ok (.bipush (-2), 2) := dk_16 254 (dk_at dksX2_covers_1 6 rfl rfl)
theorem dX2_covers_30 : decode cX2_covers 30 = .ok (.ireturn, 1) := dk_172 (dk_at dksX2_covers_1 8 rfl rfl)
abbrev cX2_isRange : ByteArray := prog_24_method_8_code
def yX2_isRange : MethodName := ⟨RX2, "isRange", "(I)Z"⟩
def dkwX2_isRange_0 : List UInt8 := [26, 3, 17, 23, 111, 184, 0, 59, 172]
abbrev dktX2_isRange_0 : List UInt8 := dkwX2_isRange_0 ++ []
theorem dksX2_isRange_0 : cX2_isRange.data.toList.drop 0 = dktX2_isRange_0 := by decide +kernel
theorem dX2_isRange_0 : decode cX2_isRange 0 = .ok (.iload_n 0, 1) := dk_26 (dk_at dksX2_isRange_0 0 rfl rfl)
theorem dX2_isRange_1 : decode cX2_isRange 1 = .ok (.iconst 0, 1) := dk_3 (dk_at dksX2_isRange_0 1 rfl rfl)
theorem dX2_isRange_2 : decode cX2_isRange 2 = .ok (.sipush 5999, 3) := dk_17 23 111 (dk_at dksX2_isRange_0 2 rfl rfl)
theorem dX2_isRange_5 : decode cX2_isRange 5 = .ok (.invokestatic 59, 3) := dk_184 0 59 (dk_at dksX2_isRange_0 5 rfl rfl)
theorem dX2_isRange_8 : decode cX2_isRange 8 = .ok (.ireturn, 1) := dk_172 (dk_at dksX2_isRange_0 8 rfl rfl)
abbrev cX2_coversOf : ByteArray := prog_24_method_13_code
def yX2_coversOf : MethodName := ⟨RX2, "coversOf", "(II)I"⟩
def dkwX2_coversOf_2 : List UInt8 := [167, 255, 213, 29, 172]
abbrev dktX2_coversOf_2 : List UInt8 := dkwX2_coversOf_2 ++ []
def dkwX2_coversOf_1 : List UInt8 := [96, 182, 0, 67, 28, 182, 0, 78, 153, 0, 10, 4, 21, 4, 120, 167, 0, 4, 3, 128, 62, 132, 4, 1]
abbrev dktX2_coversOf_1 : List UInt8 := dkwX2_coversOf_1 ++ dktX2_coversOf_2
def dkwX2_coversOf_0 : List UInt8 := [3, 62, 3, 54, 4, 21, 4, 42, 27, 3, 182, 0, 67, 162, 0, 38, 29, 42, 27, 42, 27, 5, 21, 4]
abbrev dktX2_coversOf_0 : List UInt8 := dkwX2_coversOf_0 ++ dktX2_coversOf_1
theorem dksX2_coversOf_0 : cX2_coversOf.data.toList.drop 0 = dktX2_coversOf_0 := by decide +kernel
theorem dksX2_coversOf_1 : cX2_coversOf.data.toList.drop 24 = dktX2_coversOf_1 := dk_seg dksX2_coversOf_0 24 rfl rfl
theorem dksX2_coversOf_2 : cX2_coversOf.data.toList.drop 48 = dktX2_coversOf_2 := dk_seg dksX2_coversOf_1 24 rfl rfl
theorem dX2_coversOf_0 : decode cX2_coversOf 0 = .ok (.iconst 0, 1) := dk_3 (dk_at dksX2_coversOf_0 0 rfl rfl)
theorem dX2_coversOf_1 : decode cX2_coversOf 1 = .ok (.istore_n 3, 1) := dk_62 (dk_at dksX2_coversOf_0 1 rfl rfl)
theorem dX2_coversOf_2 : decode cX2_coversOf 2 = .ok (.iconst 0, 1) := dk_3 (dk_at dksX2_coversOf_0 2 rfl rfl)
theorem dX2_coversOf_3 : decode cX2_coversOf 3 = .ok (.istore 4, 2) := dk_54 4 (dk_at dksX2_coversOf_0 3 rfl rfl)
theorem dX2_coversOf_5 : decode cX2_coversOf 5 = .ok (.iload 4, 2) := dk_21 4 (dk_at dksX2_coversOf_0 5 rfl rfl)
theorem dX2_coversOf_7 : decode cX2_coversOf 7 = .ok (.aload_n 0, 1) := dk_42 (dk_at dksX2_coversOf_0 7 rfl rfl)
theorem dX2_coversOf_8 : decode cX2_coversOf 8 = .ok (.iload_n 1, 1) := dk_27 (dk_at dksX2_coversOf_0 8 rfl rfl)
theorem dX2_coversOf_9 : decode cX2_coversOf 9 = .ok (.iconst 0, 1) := dk_3 (dk_at dksX2_coversOf_0 9 rfl rfl)
theorem dX2_coversOf_10 : decode cX2_coversOf 10 = .ok (.invokevirtual 67, 3) := dk_182 0 67 (dk_at dksX2_coversOf_0 10 rfl rfl)
theorem dX2_coversOf_13 : decode cX2_coversOf 13 = .ok (.if_icmp .ge 38, 3) := dk_162 0 38 (dk_at dksX2_coversOf_0 13 rfl rfl)
theorem dX2_coversOf_16 : decode cX2_coversOf 16 = .ok (.iload_n 3, 1) := dk_29 (dk_at dksX2_coversOf_0 16 rfl rfl)
theorem dX2_coversOf_17 : decode cX2_coversOf 17 = .ok (.aload_n 0, 1) := dk_42 (dk_at dksX2_coversOf_0 17 rfl rfl)
theorem dX2_coversOf_18 : decode cX2_coversOf 18 = .ok (.iload_n 1, 1) := dk_27 (dk_at dksX2_coversOf_0 18 rfl rfl)
theorem dX2_coversOf_19 : decode cX2_coversOf 19 = .ok (.aload_n 0, 1) := dk_42 (dk_at dksX2_coversOf_0 19 rfl rfl)
theorem dX2_coversOf_20 : decode cX2_coversOf 20 = .ok (.iload_n 1, 1) := dk_27 (dk_at dksX2_coversOf_0 20 rfl rfl)
theorem dX2_coversOf_21 : decode cX2_coversOf 21 = .ok (.iconst 2, 1) := dk_5 (dk_at dksX2_coversOf_0 21 rfl rfl)
theorem dX2_coversOf_22 : decode cX2_coversOf 22 = .ok (.iload 4, 2) := dk_21 4 (dk_at dksX2_coversOf_0 22 rfl rfl)
theorem dX2_coversOf_24 : decode cX2_coversOf 24 = .ok (.iadd, 1) := dk_96 (dk_at dksX2_coversOf_1 0 rfl rfl)
theorem dX2_coversOf_25 : decode cX2_coversOf 25 = .ok (.invokevirtual 67, 3) := dk_182 0 67 (dk_at dksX2_coversOf_1 1 rfl rfl)
theorem dX2_coversOf_28 : decode cX2_coversOf 28 = .ok (.iload_n 2, 1) := dk_28 (dk_at dksX2_coversOf_1 4 rfl rfl)
theorem dX2_coversOf_29 : decode cX2_coversOf 29 = .ok (.invokevirtual 78, 3) := dk_182 0 78 (dk_at dksX2_coversOf_1 5 rfl rfl)
theorem dX2_coversOf_32 : decode cX2_coversOf 32 = .ok (.ifCond .eq 10, 3) := dk_153 0 10 (dk_at dksX2_coversOf_1 8 rfl rfl)
theorem dX2_coversOf_35 : decode cX2_coversOf 35 = .ok (.iconst 1, 1) := dk_4 (dk_at dksX2_coversOf_1 11 rfl rfl)
theorem dX2_coversOf_36 : decode cX2_coversOf 36 = .ok (.iload 4, 2) := dk_21 4 (dk_at dksX2_coversOf_1 12 rfl rfl)
theorem dX2_coversOf_38 : decode cX2_coversOf 38 = .ok (.ishl, 1) := dk_120 (dk_at dksX2_coversOf_1 14 rfl rfl)
theorem dX2_coversOf_39 : decode cX2_coversOf 39 = .ok (.goto 4, 3) := dk_167 0 4 (dk_at dksX2_coversOf_1 15 rfl rfl)
theorem dX2_coversOf_42 : decode cX2_coversOf 42 = .ok (.iconst 0, 1) := dk_3 (dk_at dksX2_coversOf_1 18 rfl rfl)
theorem dX2_coversOf_43 : decode cX2_coversOf 43 = .ok (.ior, 1) := dk_128 (dk_at dksX2_coversOf_1 19 rfl rfl)
theorem dX2_coversOf_44 : decode cX2_coversOf 44 = .ok (.istore_n 3, 1) := dk_62 (dk_at dksX2_coversOf_1 20 rfl rfl)
theorem dX2_coversOf_45 : decode cX2_coversOf 45 = .ok (.iinc 4 1, 3) := dk_132 4 1 (dk_at dksX2_coversOf_1 21 rfl rfl)
theorem dX2_coversOf_48 : decode cX2_coversOf 48 = .ok (.goto (-43), 3) := dk_167 255 213 (dk_at dksX2_coversOf_2 0 rfl rfl)
theorem dX2_coversOf_51 : decode cX2_coversOf 51 = .ok (.iload_n 3, 1) := dk_29 (dk_at dksX2_coversOf_2 3 rfl rfl)
theorem dX2_coversOf_52 : decode cX2_coversOf 52 = .ok (.ireturn, 1) := dk_172 (dk_at dksX2_coversOf_2 4 rfl rfl)
abbrev cX2_isIn : ByteArray := prog_24_method_12_code
def yX2_isIn : MethodName := ⟨RX2, "isIn", "(III)Z"⟩
def dkwX2_isIn_7 : List UInt8 := [108, 21, 5, 16, 10, 108, 160, 0, 7, 4, 167, 0, 4, 3, 172]
abbrev dktX2_isIn_7 : List UInt8 := dkwX2_isIn_7 ++ []
def dkwX2_isIn_6 : List UInt8 := [4, 182, 0, 67, 4, 159, 0, 28, 21, 4, 153, 0, 27, 21, 5, 16, 10, 112, 153, 0, 19, 28, 16, 10]
abbrev dktX2_isIn_6 : List UInt8 := dkwX2_isIn_6 ++ dktX2_isIn_7
def dkwX2_isIn_5 : List UInt8 := [160, 0, 7, 4, 167, 0, 4, 3, 54, 7, 21, 7, 153, 0, 49, 28, 16, 10, 112, 153, 0, 38, 42, 27]
abbrev dktX2_isIn_5 : List UInt8 := dkwX2_isIn_5 ++ dktX2_isIn_6
def dkwX2_isIn_4 : List UInt8 := [159, 0, 26, 21, 4, 8, 160, 0, 24, 21, 6, 154, 0, 19, 28, 16, 10, 108, 21, 5, 16, 10, 108]
abbrev dktX2_isIn_4 : List UInt8 := dkwX2_isIn_4 ++ dktX2_isIn_5
def dkwX2_isIn_3 : List UInt8 := [153, 0, 49, 21, 4, 7, 160, 0, 20, 21, 6, 154, 0, 15, 28, 16, 100, 108, 21, 5, 16, 100, 108]
abbrev dktX2_isIn_3 : List UInt8 := dkwX2_isIn_3 ++ dktX2_isIn_4
def dkwX2_isIn_2 : List UInt8 := [159, 0, 71, 21, 4, 5, 160, 0, 8, 21, 6, 154, 0, 60, 21, 4, 6, 160, 0, 8, 21, 6]
abbrev dktX2_isIn_2 : List UInt8 := dkwX2_isIn_2 ++ dktX2_isIn_3
def dkwX2_isIn_1 : List UInt8 := [162, 0, 7, 4, 167, 0, 4, 3, 54, 6, 21, 4, 153, 0, 83, 21, 4, 4, 160, 0, 9, 28, 21, 5]
abbrev dktX2_isIn_1 : List UInt8 := dkwX2_isIn_1 ++ dktX2_isIn_2
def dkwX2_isIn_0 : List UInt8 := [29, 17, 3, 232, 108, 54, 4, 29, 17, 3, 232, 112, 54, 5, 28, 184, 0, 74, 21, 5, 184, 0, 74]
abbrev dktX2_isIn_0 : List UInt8 := dkwX2_isIn_0 ++ dktX2_isIn_1
theorem dksX2_isIn_0 : cX2_isIn.data.toList.drop 0 = dktX2_isIn_0 := by decide +kernel
theorem dksX2_isIn_1 : cX2_isIn.data.toList.drop 23 = dktX2_isIn_1 := dk_seg dksX2_isIn_0 23 rfl rfl
theorem dksX2_isIn_2 : cX2_isIn.data.toList.drop 47 = dktX2_isIn_2 := dk_seg dksX2_isIn_1 24 rfl rfl
theorem dksX2_isIn_3 : cX2_isIn.data.toList.drop 69 = dktX2_isIn_3 := dk_seg dksX2_isIn_2 22 rfl rfl
theorem dksX2_isIn_4 : cX2_isIn.data.toList.drop 92 = dktX2_isIn_4 := dk_seg dksX2_isIn_3 23 rfl rfl
theorem dksX2_isIn_5 : cX2_isIn.data.toList.drop 115 = dktX2_isIn_5 := dk_seg dksX2_isIn_4 23 rfl rfl
theorem dksX2_isIn_6 : cX2_isIn.data.toList.drop 139 = dktX2_isIn_6 := dk_seg dksX2_isIn_5 24 rfl rfl
theorem dksX2_isIn_7 : cX2_isIn.data.toList.drop 163 = dktX2_isIn_7 := dk_seg dksX2_isIn_6 24 rfl rfl
theorem dX2_isIn_0 : decode cX2_isIn 0 = .ok (.iload_n 3, 1) := dk_29 (dk_at dksX2_isIn_0 0 rfl rfl)
theorem dX2_isIn_1 : decode cX2_isIn 1 = .ok (.sipush 1000, 3) := dk_17 3 232 (dk_at dksX2_isIn_0 1 rfl rfl)
theorem dX2_isIn_4 : decode cX2_isIn 4 = .ok (.idiv, 1) := dk_108 (dk_at dksX2_isIn_0 4 rfl rfl)
theorem dX2_isIn_5 : decode cX2_isIn 5 = .ok (.istore 4, 2) := dk_54 4 (dk_at dksX2_isIn_0 5 rfl rfl)
theorem dX2_isIn_7 : decode cX2_isIn 7 = .ok (.iload_n 3, 1) := dk_29 (dk_at dksX2_isIn_0 7 rfl rfl)
theorem dX2_isIn_8 : decode cX2_isIn 8 = .ok (.sipush 1000, 3) := dk_17 3 232 (dk_at dksX2_isIn_0 8 rfl rfl)
theorem dX2_isIn_11 : decode cX2_isIn 11 = .ok (.irem, 1) := dk_112 (dk_at dksX2_isIn_0 11 rfl rfl)
theorem dX2_isIn_12 : decode cX2_isIn 12 = .ok (.istore 5, 2) := dk_54 5 (dk_at dksX2_isIn_0 12 rfl rfl)
theorem dX2_isIn_14 : decode cX2_isIn 14 = .ok (.iload_n 2, 1) := dk_28 (dk_at dksX2_isIn_0 14 rfl rfl)
theorem dX2_isIn_15 : decode cX2_isIn 15 = .ok (.invokestatic 74, 3) := dk_184 0 74 (dk_at dksX2_isIn_0 15 rfl rfl)
theorem dX2_isIn_18 : decode cX2_isIn 18 = .ok (.iload 5, 2) := dk_21 5 (dk_at dksX2_isIn_0 18 rfl rfl)
theorem dX2_isIn_20 : decode cX2_isIn 20 = .ok (.invokestatic 74, 3) := dk_184 0 74 (dk_at dksX2_isIn_0 20 rfl rfl)
theorem dX2_isIn_23 : decode cX2_isIn 23 = .ok (.if_icmp .ge 7, 3) := dk_162 0 7 (dk_at dksX2_isIn_1 0 rfl rfl)
theorem dX2_isIn_26 : decode cX2_isIn 26 = .ok (.iconst 1, 1) := dk_4 (dk_at dksX2_isIn_1 3 rfl rfl)
theorem dX2_isIn_27 : decode cX2_isIn 27 = .ok (.goto 4, 3) := dk_167 0 4 (dk_at dksX2_isIn_1 4 rfl rfl)
theorem dX2_isIn_30 : decode cX2_isIn 30 = .ok (.iconst 0, 1) := dk_3 (dk_at dksX2_isIn_1 7 rfl rfl)
theorem dX2_isIn_31 : decode cX2_isIn 31 = .ok (.istore 6, 2) := dk_54 6 (dk_at dksX2_isIn_1 8 rfl rfl)
theorem dX2_isIn_33 : decode cX2_isIn 33 = .ok (.iload 4, 2) := dk_21 4 (dk_at dksX2_isIn_1 10 rfl rfl)
theorem dX2_isIn_35 : decode cX2_isIn 35 = .ok (.ifCond .eq 83, 3) := dk_153 0 83 (dk_at dksX2_isIn_1 12 rfl rfl)
theorem dX2_isIn_38 : decode cX2_isIn 38 = .ok (.iload 4, 2) := dk_21 4 (dk_at dksX2_isIn_1 15 rfl rfl)
theorem dX2_isIn_40 : decode cX2_isIn 40 = .ok (.iconst 1, 1) := dk_4 (dk_at dksX2_isIn_1 17 rfl rfl)
theorem dX2_isIn_41 : decode cX2_isIn 41 = .ok (.if_icmp .ne 9, 3) := dk_160 0 9 (dk_at dksX2_isIn_1 18 rfl rfl)
theorem dX2_isIn_44 : decode cX2_isIn 44 = .ok (.iload_n 2, 1) := dk_28 (dk_at dksX2_isIn_1 21 rfl rfl)
theorem dX2_isIn_45 : decode cX2_isIn 45 = .ok (.iload 5, 2) := dk_21 5 (dk_at dksX2_isIn_1 22 rfl rfl)
theorem dX2_isIn_47 : decode cX2_isIn 47 = .ok (.if_icmp .eq 71, 3) := dk_159 0 71 (dk_at dksX2_isIn_2 0 rfl rfl)
theorem dX2_isIn_50 : decode cX2_isIn 50 = .ok (.iload 4, 2) := dk_21 4 (dk_at dksX2_isIn_2 3 rfl rfl)
theorem dX2_isIn_52 : decode cX2_isIn 52 = .ok (.iconst 2, 1) := dk_5 (dk_at dksX2_isIn_2 5 rfl rfl)
theorem dX2_isIn_53 : decode cX2_isIn 53 = .ok (.if_icmp .ne 8, 3) := dk_160 0 8 (dk_at dksX2_isIn_2 6 rfl rfl)
theorem dX2_isIn_56 : decode cX2_isIn 56 = .ok (.iload 6, 2) := dk_21 6 (dk_at dksX2_isIn_2 9 rfl rfl)
theorem dX2_isIn_58 : decode cX2_isIn 58 = .ok (.ifCond .ne 60, 3) := dk_154 0 60 (dk_at dksX2_isIn_2 11 rfl rfl)
theorem dX2_isIn_61 : decode cX2_isIn 61 = .ok (.iload 4, 2) := dk_21 4 (dk_at dksX2_isIn_2 14 rfl rfl)
theorem dX2_isIn_63 : decode cX2_isIn 63 = .ok (.iconst 3, 1) := dk_6 (dk_at dksX2_isIn_2 16 rfl rfl)
theorem dX2_isIn_64 : decode cX2_isIn 64 = .ok (.if_icmp .ne 8, 3) := dk_160 0 8 (dk_at dksX2_isIn_2 17 rfl rfl)
theorem dX2_isIn_67 : decode cX2_isIn 67 = .ok (.iload 6, 2) := dk_21 6 (dk_at dksX2_isIn_2 20 rfl rfl)
theorem dX2_isIn_69 : decode cX2_isIn 69 = .ok (.ifCond .eq 49, 3) := dk_153 0 49 (dk_at dksX2_isIn_3 0 rfl rfl)
theorem dX2_isIn_72 : decode cX2_isIn 72 = .ok (.iload 4, 2) := dk_21 4 (dk_at dksX2_isIn_3 3 rfl rfl)
theorem dX2_isIn_74 : decode cX2_isIn 74 = .ok (.iconst 4, 1) := dk_7 (dk_at dksX2_isIn_3 5 rfl rfl)
theorem dX2_isIn_75 : decode cX2_isIn 75 = .ok (.if_icmp .ne 20, 3) := dk_160 0 20 (dk_at dksX2_isIn_3 6 rfl rfl)
theorem dX2_isIn_78 : decode cX2_isIn 78 = .ok (.iload 6, 2) := dk_21 6 (dk_at dksX2_isIn_3 9 rfl rfl)
theorem dX2_isIn_80 : decode cX2_isIn 80 = .ok (.ifCond .ne 15, 3) := dk_154 0 15 (dk_at dksX2_isIn_3 11 rfl rfl)
theorem dX2_isIn_83 : decode cX2_isIn 83 = .ok (.iload_n 2, 1) := dk_28 (dk_at dksX2_isIn_3 14 rfl rfl)
theorem dX2_isIn_84 : decode cX2_isIn 84 = .ok (.bipush 100, 2) := dk_16 100 (dk_at dksX2_isIn_3 15 rfl rfl)
theorem dX2_isIn_86 : decode cX2_isIn 86 = .ok (.idiv, 1) := dk_108 (dk_at dksX2_isIn_3 17 rfl rfl)
theorem dX2_isIn_87 : decode cX2_isIn 87 = .ok (.iload 5, 2) := dk_21 5 (dk_at dksX2_isIn_3 18 rfl rfl)
theorem dX2_isIn_89 : decode cX2_isIn 89 = .ok (.bipush 100, 2) := dk_16 100 (dk_at dksX2_isIn_3 20 rfl rfl)
theorem dX2_isIn_91 : decode cX2_isIn 91 = .ok (.idiv, 1) := dk_108 (dk_at dksX2_isIn_3 22 rfl rfl)
theorem dX2_isIn_92 : decode cX2_isIn 92 = .ok (.if_icmp .eq 26, 3) := dk_159 0 26 (dk_at dksX2_isIn_4 0 rfl rfl)
theorem dX2_isIn_95 : decode cX2_isIn 95 = .ok (.iload 4, 2) := dk_21 4 (dk_at dksX2_isIn_4 3 rfl rfl)
theorem dX2_isIn_97 : decode cX2_isIn 97 = .ok (.iconst 5, 1) := dk_8 (dk_at dksX2_isIn_4 5 rfl rfl)
theorem dX2_isIn_98 : decode cX2_isIn 98 = .ok (.if_icmp .ne 24, 3) := dk_160 0 24 (dk_at dksX2_isIn_4 6 rfl rfl)
theorem dX2_isIn_101 : decode cX2_isIn 101 = .ok (.iload 6, 2) := dk_21 6 (dk_at dksX2_isIn_4 9 rfl rfl)
theorem dX2_isIn_103 : decode cX2_isIn 103 = .ok (.ifCond .ne 19, 3) := dk_154 0 19 (dk_at dksX2_isIn_4 11 rfl rfl)
theorem dX2_isIn_106 : decode cX2_isIn 106 = .ok (.iload_n 2, 1) := dk_28 (dk_at dksX2_isIn_4 14 rfl rfl)
theorem dX2_isIn_107 : decode cX2_isIn 107 = .ok (.bipush 10, 2) := dk_16 10 (dk_at dksX2_isIn_4 15 rfl rfl)
theorem dX2_isIn_109 : decode cX2_isIn 109 = .ok (.idiv, 1) := dk_108 (dk_at dksX2_isIn_4 17 rfl rfl)
theorem dX2_isIn_110 : decode cX2_isIn 110 = .ok (.iload 5, 2) := dk_21 5 (dk_at dksX2_isIn_4 18 rfl rfl)
theorem dX2_isIn_112 : decode cX2_isIn 112 = .ok (.bipush 10, 2) := dk_16 10 (dk_at dksX2_isIn_4 20 rfl rfl)
theorem dX2_isIn_114 : decode cX2_isIn 114 = .ok (.idiv, 1) := dk_108 (dk_at dksX2_isIn_4 22 rfl rfl)
theorem dX2_isIn_115 : decode cX2_isIn 115 = .ok (.if_icmp .ne 7, 3) := dk_160 0 7 (dk_at dksX2_isIn_5 0 rfl rfl)
theorem dX2_isIn_118 : decode cX2_isIn 118 = .ok (.iconst 1, 1) := dk_4 (dk_at dksX2_isIn_5 3 rfl rfl)
theorem dX2_isIn_119 : decode cX2_isIn 119 = .ok (.goto 4, 3) := dk_167 0 4 (dk_at dksX2_isIn_5 4 rfl rfl)
theorem dX2_isIn_122 : decode cX2_isIn 122 = .ok (.iconst 0, 1) := dk_3 (dk_at dksX2_isIn_5 7 rfl rfl)
theorem dX2_isIn_123 : decode cX2_isIn 123 = .ok (.istore 7, 2) := dk_54 7 (dk_at dksX2_isIn_5 8 rfl rfl)
theorem dX2_isIn_125 : decode cX2_isIn 125 = .ok (.iload 7, 2) := dk_21 7 (dk_at dksX2_isIn_5 10 rfl rfl)
theorem dX2_isIn_127 : decode cX2_isIn 127 = .ok (.ifCond .eq 49, 3) := dk_153 0 49 (dk_at dksX2_isIn_5 12 rfl rfl)
theorem dX2_isIn_130 : decode cX2_isIn 130 = .ok (.iload_n 2, 1) := dk_28 (dk_at dksX2_isIn_5 15 rfl rfl)
theorem dX2_isIn_131 : decode cX2_isIn 131 = .ok (.bipush 10, 2) := dk_16 10 (dk_at dksX2_isIn_5 16 rfl rfl)
theorem dX2_isIn_133 : decode cX2_isIn 133 = .ok (.irem, 1) := dk_112 (dk_at dksX2_isIn_5 18 rfl rfl)
theorem dX2_isIn_134 : decode cX2_isIn 134 = .ok (.ifCond .eq 38, 3) := dk_153 0 38 (dk_at dksX2_isIn_5 19 rfl rfl)
theorem dX2_isIn_137 : decode cX2_isIn 137 = .ok (.aload_n 0, 1) := dk_42 (dk_at dksX2_isIn_5 22 rfl rfl)
theorem dX2_isIn_138 : decode cX2_isIn 138 = .ok (.iload_n 1, 1) := dk_27 (dk_at dksX2_isIn_5 23 rfl rfl)
theorem dX2_isIn_139 : decode cX2_isIn 139 = .ok (.iconst 1, 1) := dk_4 (dk_at dksX2_isIn_6 0 rfl rfl)
theorem dX2_isIn_140 : decode cX2_isIn 140 = .ok (.invokevirtual 67, 3) := dk_182 0 67 (dk_at dksX2_isIn_6 1 rfl rfl)
theorem dX2_isIn_143 : decode cX2_isIn 143 = .ok (.iconst 1, 1) := dk_4 (dk_at dksX2_isIn_6 4 rfl rfl)
theorem dX2_isIn_144 : decode cX2_isIn 144 = .ok (.if_icmp .eq 28, 3) := dk_159 0 28 (dk_at dksX2_isIn_6 5 rfl rfl)
theorem dX2_isIn_147 : decode cX2_isIn 147 = .ok (.iload 4, 2) := dk_21 4 (dk_at dksX2_isIn_6 8 rfl rfl)
theorem dX2_isIn_149 : decode cX2_isIn 149 = .ok (.ifCond .eq 27, 3) := dk_153 0 27 (dk_at dksX2_isIn_6 10 rfl rfl)
theorem dX2_isIn_152 : decode cX2_isIn 152 = .ok (.iload 5, 2) := dk_21 5 (dk_at dksX2_isIn_6 13 rfl rfl)
theorem dX2_isIn_154 : decode cX2_isIn 154 = .ok (.bipush 10, 2) := dk_16 10 (dk_at dksX2_isIn_6 15 rfl rfl)
theorem dX2_isIn_156 : decode cX2_isIn 156 = .ok (.irem, 1) := dk_112 (dk_at dksX2_isIn_6 17 rfl rfl)
theorem dX2_isIn_157 : decode cX2_isIn 157 = .ok (.ifCond .eq 19, 3) := dk_153 0 19 (dk_at dksX2_isIn_6 18 rfl rfl)
theorem dX2_isIn_160 : decode cX2_isIn 160 = .ok (.iload_n 2, 1) := dk_28 (dk_at dksX2_isIn_6 21 rfl rfl)
theorem dX2_isIn_161 : decode cX2_isIn 161 = .ok (.bipush 10, 2) := dk_16 10 (dk_at dksX2_isIn_6 22 rfl rfl)
theorem dX2_isIn_163 : decode cX2_isIn 163 = .ok (.idiv, 1) := dk_108 (dk_at dksX2_isIn_7 0 rfl rfl)
theorem dX2_isIn_164 : decode cX2_isIn 164 = .ok (.iload 5, 2) := dk_21 5 (dk_at dksX2_isIn_7 1 rfl rfl)
theorem dX2_isIn_166 : decode cX2_isIn 166 = .ok (.bipush 10, 2) := dk_16 10 (dk_at dksX2_isIn_7 3 rfl rfl)
theorem dX2_isIn_168 : decode cX2_isIn 168 = .ok (.idiv, 1) := dk_108 (dk_at dksX2_isIn_7 5 rfl rfl)
theorem dX2_isIn_169 : decode cX2_isIn 169 = .ok (.if_icmp .ne 7, 3) := dk_160 0 7 (dk_at dksX2_isIn_7 6 rfl rfl)
theorem dX2_isIn_172 : decode cX2_isIn 172 = .ok (.iconst 1, 1) := dk_4 (dk_at dksX2_isIn_7 9 rfl rfl)
theorem dX2_isIn_173 : decode cX2_isIn 173 = .ok (.goto 4, 3) := dk_167 0 4 (dk_at dksX2_isIn_7 10 rfl rfl)
theorem dX2_isIn_176 : decode cX2_isIn 176 = .ok (.iconst 0, 1) := dk_3 (dk_at dksX2_isIn_7 13 rfl rfl)
theorem dX2_isIn_177 : decode cX2_isIn 177 = .ok (.ireturn, 1) := dk_172 (dk_at dksX2_isIn_7 14 rfl rfl)
abbrev cX2_latest : ByteArray := prog_24_method_21_code
def yX2_latest : MethodName := ⟨RX2, "latest", "(II)I"⟩
def dkwX2_latest_3 : List UInt8 := [29, 182, 0, 94, 164, 0, 6, 21, 5, 62, 132, 5, 1, 167, 255, 206, 29, 172]
abbrev dktX2_latest_3 : List UInt8 := dkwX2_latest_3 ++ []
def dkwX2_latest_2 : List UInt8 := [21, 5, 122, 4, 126, 4, 160, 0, 28, 29, 16, 251, 159, 0, 19, 42, 27, 21, 5, 182, 0, 94, 42, 27]
abbrev dktX2_latest_2 : List UInt8 := dkwX2_latest_2 ++ dktX2_latest_3
def dkwX2_latest_1 : List UInt8 := [27, 28, 182, 0, 103, 54, 4, 3, 54, 5, 21, 5, 42, 27, 3, 182, 0, 67, 162, 0, 45, 21, 4]
abbrev dktX2_latest_1 : List UInt8 := dkwX2_latest_1 ++ dktX2_latest_2
def dkwX2_latest_0 : List UInt8 := [42, 27, 182, 0, 63, 154, 0, 5, 2, 172, 28, 184, 0, 100, 154, 0, 6, 16, 254, 172, 16, 251, 62, 42]
abbrev dktX2_latest_0 : List UInt8 := dkwX2_latest_0 ++ dktX2_latest_1
theorem dksX2_latest_0 : cX2_latest.data.toList.drop 0 = dktX2_latest_0 := by decide +kernel
theorem dksX2_latest_1 : cX2_latest.data.toList.drop 24 = dktX2_latest_1 := dk_seg dksX2_latest_0 24 rfl rfl
theorem dksX2_latest_2 : cX2_latest.data.toList.drop 47 = dktX2_latest_2 := dk_seg dksX2_latest_1 23 rfl rfl
theorem dksX2_latest_3 : cX2_latest.data.toList.drop 71 = dktX2_latest_3 := dk_seg dksX2_latest_2 24 rfl rfl
theorem dX2_latest_0 : decode cX2_latest 0 = .ok (.aload_n 0, 1) := dk_42 (dk_at dksX2_latest_0 0 rfl rfl)
theorem dX2_latest_1 : decode cX2_latest 1 = .ok (.iload_n 1, 1) := dk_27 (dk_at dksX2_latest_0 1 rfl rfl)
theorem dX2_latest_2 : decode cX2_latest 2 = .ok (.invokevirtual 63, 3) := dk_182 0 63 (dk_at dksX2_latest_0 2 rfl rfl)
theorem dX2_latest_5 : decode cX2_latest 5 = .ok (.ifCond .ne 5, 3) := dk_154 0 5 (dk_at dksX2_latest_0 5 rfl rfl)
theorem dX2_latest_8 : decode cX2_latest 8 = .ok (.iconst (-1), 1) := dk_2 (dk_at dksX2_latest_0 8 rfl rfl)
theorem dX2_latest_9 : decode cX2_latest 9 = .ok (.ireturn, 1) := dk_172 (dk_at dksX2_latest_0 9 rfl rfl)
theorem dX2_latest_10 : decode cX2_latest 10 = .ok (.iload_n 2, 1) := dk_28 (dk_at dksX2_latest_0 10 rfl rfl)
theorem dX2_latest_11 : decode cX2_latest 11 = .ok (.invokestatic 100, 3) := dk_184 0 100 (dk_at dksX2_latest_0 11 rfl rfl)
theorem dX2_latest_14 : decode cX2_latest 14 = .ok (.ifCond .ne 6, 3) := dk_154 0 6 (dk_at dksX2_latest_0 14 rfl rfl)
theorem dX2_latest_17 : decode cX2_latest 17 = .ok (.bipush (-2), 2) := dk_16 254 (dk_at dksX2_latest_0 17 rfl rfl)
theorem dX2_latest_19 : decode cX2_latest 19 = .ok (.ireturn, 1) := dk_172 (dk_at dksX2_latest_0 19 rfl rfl)
theorem dX2_latest_20 : decode cX2_latest 20 = .ok (.bipush (-5), 2) := dk_16 251 (dk_at dksX2_latest_0 20 rfl rfl)
theorem dX2_latest_22 : decode cX2_latest 22 = .ok (.istore_n 3, 1) := dk_62 (dk_at dksX2_latest_0 22 rfl rfl)
theorem dX2_latest_23 : decode cX2_latest 23 = .ok (.aload_n 0, 1) := dk_42 (dk_at dksX2_latest_0 23 rfl rfl)
theorem dX2_latest_24 : decode cX2_latest 24 = .ok (.iload_n 1, 1) := dk_27 (dk_at dksX2_latest_1 0 rfl rfl)
theorem dX2_latest_25 : decode cX2_latest 25 = .ok (.iload_n 2, 1) := dk_28 (dk_at dksX2_latest_1 1 rfl rfl)
theorem dX2_latest_26 : decode cX2_latest 26 = .ok (.invokevirtual 103, 3) := dk_182 0 103 (dk_at dksX2_latest_1 2 rfl rfl)
theorem dX2_latest_29 : decode cX2_latest 29 = .ok (.istore 4, 2) := dk_54 4 (dk_at dksX2_latest_1 5 rfl rfl)
theorem dX2_latest_31 : decode cX2_latest 31 = .ok (.iconst 0, 1) := dk_3 (dk_at dksX2_latest_1 7 rfl rfl)
theorem dX2_latest_32 : decode cX2_latest 32 = .ok (.istore 5, 2) := dk_54 5 (dk_at dksX2_latest_1 8 rfl rfl)
theorem dX2_latest_34 : decode cX2_latest 34 = .ok (.iload 5, 2) := dk_21 5 (dk_at dksX2_latest_1 10 rfl rfl)
theorem dX2_latest_36 : decode cX2_latest 36 = .ok (.aload_n 0, 1) := dk_42 (dk_at dksX2_latest_1 12 rfl rfl)
theorem dX2_latest_37 : decode cX2_latest 37 = .ok (.iload_n 1, 1) := dk_27 (dk_at dksX2_latest_1 13 rfl rfl)
theorem dX2_latest_38 : decode cX2_latest 38 = .ok (.iconst 0, 1) := dk_3 (dk_at dksX2_latest_1 14 rfl rfl)
theorem dX2_latest_39 : decode cX2_latest 39 = .ok (.invokevirtual 67, 3) := dk_182 0 67 (dk_at dksX2_latest_1 15 rfl rfl)
theorem dX2_latest_42 : decode cX2_latest 42 = .ok (.if_icmp .ge 45, 3) := dk_162 0 45 (dk_at dksX2_latest_1 18 rfl rfl)
theorem dX2_latest_45 : decode cX2_latest 45 = .ok (.iload 4, 2) := dk_21 4 (dk_at dksX2_latest_1 21 rfl rfl)
theorem dX2_latest_47 : decode cX2_latest 47 = .ok (.iload 5, 2) := dk_21 5 (dk_at dksX2_latest_2 0 rfl rfl)
theorem dX2_latest_49 : decode cX2_latest 49 = .ok (.ishr, 1) := dk_122 (dk_at dksX2_latest_2 2 rfl rfl)
theorem dX2_latest_50 : decode cX2_latest 50 = .ok (.iconst 1, 1) := dk_4 (dk_at dksX2_latest_2 3 rfl rfl)
theorem dX2_latest_51 : decode cX2_latest 51 = .ok (.iand, 1) := dk_126 (dk_at dksX2_latest_2 4 rfl rfl)
theorem dX2_latest_52 : decode cX2_latest 52 = .ok (.iconst 1, 1) := dk_4 (dk_at dksX2_latest_2 5 rfl rfl)
theorem dX2_latest_53 : decode cX2_latest 53 = .ok (.if_icmp .ne 28, 3) := dk_160 0 28 (dk_at dksX2_latest_2 6 rfl rfl)
theorem dX2_latest_56 : decode cX2_latest 56 = .ok (.iload_n 3, 1) := dk_29 (dk_at dksX2_latest_2 9 rfl rfl)
theorem dX2_latest_57 : decode cX2_latest 57 = .ok (.bipush (-5), 2) := dk_16 251 (dk_at dksX2_latest_2 10 rfl rfl)
theorem dX2_latest_59 : decode cX2_latest 59 = .ok (.if_icmp .eq 19, 3) := dk_159 0 19 (dk_at dksX2_latest_2 12 rfl rfl)
theorem dX2_latest_62 : decode cX2_latest 62 = .ok (.aload_n 0, 1) := dk_42 (dk_at dksX2_latest_2 15 rfl rfl)
theorem dX2_latest_63 : decode cX2_latest 63 = .ok (.iload_n 1, 1) := dk_27 (dk_at dksX2_latest_2 16 rfl rfl)
theorem dX2_latest_64 : decode cX2_latest 64 = .ok (.iload 5, 2) := dk_21 5 (dk_at dksX2_latest_2 17 rfl rfl)
theorem dX2_latest_66 : decode cX2_latest 66 = .ok (.invokevirtual 94, 3) := dk_182 0 94 (dk_at dksX2_latest_2 19 rfl rfl)
theorem dX2_latest_69 : decode cX2_latest 69 = .ok (.aload_n 0, 1) := dk_42 (dk_at dksX2_latest_2 22 rfl rfl)
theorem dX2_latest_70 : decode cX2_latest 70 = .ok (.iload_n 1, 1) := dk_27 (dk_at dksX2_latest_2 23 rfl rfl)
theorem dX2_latest_71 : decode cX2_latest 71 = .ok (.iload_n 3, 1) := dk_29 (dk_at dksX2_latest_3 0 rfl rfl)
theorem dX2_latest_72 : decode cX2_latest 72 = .ok (.invokevirtual 94, 3) := dk_182 0 94 (dk_at dksX2_latest_3 1 rfl rfl)
theorem dX2_latest_75 : decode cX2_latest 75 = .ok (.if_icmp .le 6, 3) := dk_164 0 6 (dk_at dksX2_latest_3 4 rfl rfl)
theorem dX2_latest_78 : decode cX2_latest 78 = .ok (.iload 5, 2) := dk_21 5 (dk_at dksX2_latest_3 7 rfl rfl)
theorem dX2_latest_80 : decode cX2_latest 80 = .ok (.istore_n 3, 1) := dk_62 (dk_at dksX2_latest_3 9 rfl rfl)
theorem dX2_latest_81 : decode cX2_latest 81 = .ok (.iinc 5 1, 3) := dk_132 5 1 (dk_at dksX2_latest_3 10 rfl rfl)
theorem dX2_latest_84 : decode cX2_latest 84 = .ok (.goto (-50), 3) := dk_167 255 206 (dk_at dksX2_latest_3 13 rfl rfl)
theorem dX2_latest_87 : decode cX2_latest 87 = .ok (.iload_n 3, 1) := dk_29 (dk_at dksX2_latest_3 16 rfl rfl)
theorem dX2_latest_88 : decode cX2_latest 88 = .ok (.ireturn, 1) := dk_172 (dk_at dksX2_latest_3 17 rfl rfl)
abbrev cX2_want : ByteArray := prog_24_method_26_code
def yX2_want : MethodName := ⟨RX2, "want", "(II)I"⟩
def dkwX2_want_0 : List UInt8 := [42, 182, 0, 81, 42, 42, 27, 28, 182, 0, 110, 182, 0, 113, 172]
abbrev dktX2_want_0 : List UInt8 := dkwX2_want_0 ++ []
theorem dksX2_want_0 : cX2_want.data.toList.drop 0 = dktX2_want_0 := by decide +kernel
theorem dX2_want_0 : decode cX2_want 0 = .ok (.aload_n 0, 1) := dk_42 (dk_at dksX2_want_0 0 rfl rfl)
theorem dX2_want_1 : decode cX2_want 1 = .ok (.invokevirtual 81, 3) := dk_182 0 81 (dk_at dksX2_want_0 1 rfl rfl)
theorem dX2_want_4 : decode cX2_want 4 = .ok (.aload_n 0, 1) := dk_42 (dk_at dksX2_want_0 4 rfl rfl)
theorem dX2_want_5 : decode cX2_want 5 = .ok (.aload_n 0, 1) := dk_42 (dk_at dksX2_want_0 5 rfl rfl)
theorem dX2_want_6 : decode cX2_want 6 = .ok (.iload_n 1, 1) := dk_27 (dk_at dksX2_want_0 6 rfl rfl)
theorem dX2_want_7 : decode cX2_want 7 = .ok (.iload_n 2, 1) := dk_28 (dk_at dksX2_want_0 7 rfl rfl)
theorem dX2_want_8 : decode cX2_want 8 = .ok (.invokevirtual 110, 3) := dk_182 0 110 (dk_at dksX2_want_0 8 rfl rfl)
theorem dX2_want_11 : decode cX2_want 11 = .ok (.invokevirtual 113, 3) := dk_182 0 113 (dk_at dksX2_want_0 11 rfl rfl)
theorem dX2_want_14 : decode cX2_want 14 = .ok (.ireturn, 1) := dk_172 (dk_at dksX2_want_0 14 rfl rfl)
abbrev cX2_wants : ByteArray := prog_24_method_23_code
def yX2_wants : MethodName := ⟨RX2, "wants", "(II)I"⟩
def dkwX2_wants_1 : List UInt8 := [4, 46, 16, 30, 160, 0, 8, 16, 252, 167, 0, 13, 42, 3, 27, 3, 3, 28, 3, 182, 0, 106, 172]
abbrev dktX2_wants_1 : List UInt8 := dkwX2_wants_1 ++ []
def dkwX2_wants_0 : List UInt8 := [42, 27, 182, 0, 63, 154, 0, 5, 2, 172, 28, 184, 0, 100, 154, 0, 6, 16, 254, 172, 42, 180, 0, 7]
abbrev dktX2_wants_0 : List UInt8 := dkwX2_wants_0 ++ dktX2_wants_1
theorem dksX2_wants_0 : cX2_wants.data.toList.drop 0 = dktX2_wants_0 := by decide +kernel
theorem dksX2_wants_1 : cX2_wants.data.toList.drop 24 = dktX2_wants_1 := dk_seg dksX2_wants_0 24 rfl rfl
theorem dX2_wants_0 : decode cX2_wants 0 = .ok (.aload_n 0, 1) := dk_42 (dk_at dksX2_wants_0 0 rfl rfl)
theorem dX2_wants_1 : decode cX2_wants 1 = .ok (.iload_n 1, 1) := dk_27 (dk_at dksX2_wants_0 1 rfl rfl)
theorem dX2_wants_2 : decode cX2_wants 2 = .ok (.invokevirtual 63, 3) := dk_182 0 63 (dk_at dksX2_wants_0 2 rfl rfl)
theorem dX2_wants_5 : decode cX2_wants 5 = .ok (.ifCond .ne 5, 3) := dk_154 0 5 (dk_at dksX2_wants_0 5 rfl rfl)
theorem dX2_wants_8 : decode cX2_wants 8 = .ok (.iconst (-1), 1) := dk_2 (dk_at dksX2_wants_0 8 rfl rfl)
theorem dX2_wants_9 : decode cX2_wants 9 = .ok (.ireturn, 1) := dk_172 (dk_at dksX2_wants_0 9 rfl rfl)
theorem dX2_wants_10 : decode cX2_wants 10 = .ok (.iload_n 2, 1) := dk_28 (dk_at dksX2_wants_0 10 rfl rfl)
theorem dX2_wants_11 : decode cX2_wants 11 = .ok (.invokestatic 100, 3) := dk_184 0 100 (dk_at dksX2_wants_0 11 rfl rfl)
theorem dX2_wants_14 : decode cX2_wants 14 = .ok (.ifCond .ne 6, 3) := dk_154 0 6 (dk_at dksX2_wants_0 14 rfl rfl)
theorem dX2_wants_17 : decode cX2_wants 17 = .ok (.bipush (-2), 2) := dk_16 254 (dk_at dksX2_wants_0 17 rfl rfl)
theorem dX2_wants_19 : decode cX2_wants 19 = .ok (.ireturn, 1) := dk_172 (dk_at dksX2_wants_0 19 rfl rfl)
theorem dX2_wants_20 : decode cX2_wants 20 = .ok (.aload_n 0, 1) := dk_42 (dk_at dksX2_wants_0 20 rfl rfl)
theorem dX2_wants_21 : decode cX2_wants 21 = .ok (.getfield 7, 3) := dk_180 0 7 (dk_at dksX2_wants_0 21 rfl rfl)
theorem dX2_wants_24 : decode cX2_wants 24 = .ok (.iconst 1, 1) := dk_4 (dk_at dksX2_wants_1 0 rfl rfl)
theorem dX2_wants_25 : decode cX2_wants 25 = .ok (.iaload, 1) := dk_46 (dk_at dksX2_wants_1 1 rfl rfl)
theorem dX2_wants_26 : decode cX2_wants 26 = .ok (.bipush 30, 2) := dk_16 30 (dk_at dksX2_wants_1 2 rfl rfl)
theorem dX2_wants_28 : decode cX2_wants 28 = .ok (.if_icmp .ne 8, 3) := dk_160 0 8 (dk_at dksX2_wants_1 4 rfl rfl)
theorem dX2_wants_31 : decode cX2_wants 31 = .ok (.bipush (-4), 2) := dk_16 252 (dk_at dksX2_wants_1 7 rfl rfl)
theorem dX2_wants_33 : decode cX2_wants 33 = .ok (.goto 13, 3) := dk_167 0 13 (dk_at dksX2_wants_1 9 rfl rfl)
theorem dX2_wants_36 : decode cX2_wants 36 = .ok (.aload_n 0, 1) := dk_42 (dk_at dksX2_wants_1 12 rfl rfl)
theorem dX2_wants_37 : decode cX2_wants 37 = .ok (.iconst 0, 1) := dk_3 (dk_at dksX2_wants_1 13 rfl rfl)
theorem dX2_wants_38 : decode cX2_wants 38 = .ok (.iload_n 1, 1) := dk_27 (dk_at dksX2_wants_1 14 rfl rfl)
theorem dX2_wants_39 : decode cX2_wants 39 = .ok (.iconst 0, 1) := dk_3 (dk_at dksX2_wants_1 15 rfl rfl)
theorem dX2_wants_40 : decode cX2_wants 40 = .ok (.iconst 0, 1) := dk_3 (dk_at dksX2_wants_1 16 rfl rfl)
theorem dX2_wants_41 : decode cX2_wants 41 = .ok (.iload_n 2, 1) := dk_28 (dk_at dksX2_wants_1 17 rfl rfl)
theorem dX2_wants_42 : decode cX2_wants 42 = .ok (.iconst 0, 1) := dk_3 (dk_at dksX2_wants_1 18 rfl rfl)
theorem dX2_wants_43 : decode cX2_wants 43 = .ok (.invokevirtual 106, 3) := dk_182 0 106 (dk_at dksX2_wants_1 19 rfl rfl)
theorem dX2_wants_46 : decode cX2_wants 46 = .ok (.ireturn, 1) := dk_172 (dk_at dksX2_wants_1 22 rfl rfl)
abbrev cX2_adds : ByteArray := prog_24_method_22_code
def yX2_adds : MethodName := ⟨RX2, "adds", "(IIIIII)I"⟩
def dkwX2_adds_3 : List UInt8 := [8, 96, 21, 6, 79, 42, 180, 0, 7, 4, 92, 46, 4, 96, 79, 42, 180, 0, 7, 4, 46, 4, 100, 172]
abbrev dktX2_adds_3 : List UInt8 := dkwX2_adds_3 ++ []
def dkwX2_adds_2 : List UInt8 := [21, 7, 6, 96, 21, 4, 79, 42, 180, 0, 7, 21, 7, 7, 96, 21, 5, 79, 42, 180, 0, 7, 21, 7]
abbrev dktX2_adds_2 : List UInt8 := dkwX2_adds_2 ++ dktX2_adds_3
def dkwX2_adds_1 : List UInt8 := [42, 180, 0, 7, 21, 7, 4, 96, 28, 79, 42, 180, 0, 7, 21, 7, 5, 96, 29, 79, 42, 180, 0, 7]
abbrev dktX2_adds_1 : List UInt8 := dkwX2_adds_1 ++ dktX2_adds_2
def dkwX2_adds_0 : List UInt8 := [16, 45, 16, 6, 42, 180, 0, 7, 4, 46, 104, 96, 54, 7, 42, 180, 0, 7, 21, 7, 3, 96, 27, 79]
abbrev dktX2_adds_0 : List UInt8 := dkwX2_adds_0 ++ dktX2_adds_1
theorem dksX2_adds_0 : cX2_adds.data.toList.drop 0 = dktX2_adds_0 := by decide +kernel
theorem dksX2_adds_1 : cX2_adds.data.toList.drop 24 = dktX2_adds_1 := dk_seg dksX2_adds_0 24 rfl rfl
theorem dksX2_adds_2 : cX2_adds.data.toList.drop 48 = dktX2_adds_2 := dk_seg dksX2_adds_1 24 rfl rfl
theorem dksX2_adds_3 : cX2_adds.data.toList.drop 72 = dktX2_adds_3 := dk_seg dksX2_adds_2 24 rfl rfl
theorem dX2_adds_0 : decode cX2_adds 0 = .ok (.bipush 45, 2) := dk_16 45 (dk_at dksX2_adds_0 0 rfl rfl)
theorem dX2_adds_2 : decode cX2_adds 2 = .ok (.bipush 6, 2) := dk_16 6 (dk_at dksX2_adds_0 2 rfl rfl)
theorem dX2_adds_4 : decode cX2_adds 4 = .ok (.aload_n 0, 1) := dk_42 (dk_at dksX2_adds_0 4 rfl rfl)
theorem dX2_adds_5 : decode cX2_adds 5 = .ok (.getfield 7, 3) := dk_180 0 7 (dk_at dksX2_adds_0 5 rfl rfl)
theorem dX2_adds_8 : decode cX2_adds 8 = .ok (.iconst 1, 1) := dk_4 (dk_at dksX2_adds_0 8 rfl rfl)
theorem dX2_adds_9 : decode cX2_adds 9 = .ok (.iaload, 1) := dk_46 (dk_at dksX2_adds_0 9 rfl rfl)
theorem dX2_adds_10 : decode cX2_adds 10 = .ok (.imul, 1) := dk_104 (dk_at dksX2_adds_0 10 rfl rfl)
theorem dX2_adds_11 : decode cX2_adds 11 = .ok (.iadd, 1) := dk_96 (dk_at dksX2_adds_0 11 rfl rfl)
theorem dX2_adds_12 : decode cX2_adds 12 = .ok (.istore 7, 2) := dk_54 7 (dk_at dksX2_adds_0 12 rfl rfl)
theorem dX2_adds_14 : decode cX2_adds 14 = .ok (.aload_n 0, 1) := dk_42 (dk_at dksX2_adds_0 14 rfl rfl)
theorem dX2_adds_15 : decode cX2_adds 15 = .ok (.getfield 7, 3) := dk_180 0 7 (dk_at dksX2_adds_0 15 rfl rfl)
theorem dX2_adds_18 : decode cX2_adds 18 = .ok (.iload 7, 2) := dk_21 7 (dk_at dksX2_adds_0 18 rfl rfl)
theorem dX2_adds_20 : decode cX2_adds 20 = .ok (.iconst 0, 1) := dk_3 (dk_at dksX2_adds_0 20 rfl rfl)
theorem dX2_adds_21 : decode cX2_adds 21 = .ok (.iadd, 1) := dk_96 (dk_at dksX2_adds_0 21 rfl rfl)
theorem dX2_adds_22 : decode cX2_adds 22 = .ok (.iload_n 1, 1) := dk_27 (dk_at dksX2_adds_0 22 rfl rfl)
theorem dX2_adds_23 : decode cX2_adds 23 = .ok (.iastore, 1) := dk_79 (dk_at dksX2_adds_0 23 rfl rfl)
theorem dX2_adds_24 : decode cX2_adds 24 = .ok (.aload_n 0, 1) := dk_42 (dk_at dksX2_adds_1 0 rfl rfl)
theorem dX2_adds_25 : decode cX2_adds 25 = .ok (.getfield 7, 3) := dk_180 0 7 (dk_at dksX2_adds_1 1 rfl rfl)
theorem dX2_adds_28 : decode cX2_adds 28 = .ok (.iload 7, 2) := dk_21 7 (dk_at dksX2_adds_1 4 rfl rfl)
theorem dX2_adds_30 : decode cX2_adds 30 = .ok (.iconst 1, 1) := dk_4 (dk_at dksX2_adds_1 6 rfl rfl)
theorem dX2_adds_31 : decode cX2_adds 31 = .ok (.iadd, 1) := dk_96 (dk_at dksX2_adds_1 7 rfl rfl)
theorem dX2_adds_32 : decode cX2_adds 32 = .ok (.iload_n 2, 1) := dk_28 (dk_at dksX2_adds_1 8 rfl rfl)
theorem dX2_adds_33 : decode cX2_adds 33 = .ok (.iastore, 1) := dk_79 (dk_at dksX2_adds_1 9 rfl rfl)
theorem dX2_adds_34 : decode cX2_adds 34 = .ok (.aload_n 0, 1) := dk_42 (dk_at dksX2_adds_1 10 rfl rfl)
theorem dX2_adds_35 : decode cX2_adds 35 = .ok (.getfield 7, 3) := dk_180 0 7 (dk_at dksX2_adds_1 11 rfl rfl)
theorem dX2_adds_38 : decode cX2_adds 38 = .ok (.iload 7, 2) := dk_21 7 (dk_at dksX2_adds_1 14 rfl rfl)
theorem dX2_adds_40 : decode cX2_adds 40 = .ok (.iconst 2, 1) := dk_5 (dk_at dksX2_adds_1 16 rfl rfl)
theorem dX2_adds_41 : decode cX2_adds 41 = .ok (.iadd, 1) := dk_96 (dk_at dksX2_adds_1 17 rfl rfl)
theorem dX2_adds_42 : decode cX2_adds 42 = .ok (.iload_n 3, 1) := dk_29 (dk_at dksX2_adds_1 18 rfl rfl)
theorem dX2_adds_43 : decode cX2_adds 43 = .ok (.iastore, 1) := dk_79 (dk_at dksX2_adds_1 19 rfl rfl)
theorem dX2_adds_44 : decode cX2_adds 44 = .ok (.aload_n 0, 1) := dk_42 (dk_at dksX2_adds_1 20 rfl rfl)
theorem dX2_adds_45 : decode cX2_adds 45 = .ok (.getfield 7, 3) := dk_180 0 7 (dk_at dksX2_adds_1 21 rfl rfl)
theorem dX2_adds_48 : decode cX2_adds 48 = .ok (.iload 7, 2) := dk_21 7 (dk_at dksX2_adds_2 0 rfl rfl)
theorem dX2_adds_50 : decode cX2_adds 50 = .ok (.iconst 3, 1) := dk_6 (dk_at dksX2_adds_2 2 rfl rfl)
theorem dX2_adds_51 : decode cX2_adds 51 = .ok (.iadd, 1) := dk_96 (dk_at dksX2_adds_2 3 rfl rfl)
theorem dX2_adds_52 : decode cX2_adds 52 = .ok (.iload 4, 2) := dk_21 4 (dk_at dksX2_adds_2 4 rfl rfl)
theorem dX2_adds_54 : decode cX2_adds 54 = .ok (.iastore, 1) := dk_79 (dk_at dksX2_adds_2 6 rfl rfl)
theorem dX2_adds_55 : decode cX2_adds 55 = .ok (.aload_n 0, 1) := dk_42 (dk_at dksX2_adds_2 7 rfl rfl)
theorem dX2_adds_56 : decode cX2_adds 56 = .ok (.getfield 7, 3) := dk_180 0 7 (dk_at dksX2_adds_2 8 rfl rfl)
theorem dX2_adds_59 : decode cX2_adds 59 = .ok (.iload 7, 2) := dk_21 7 (dk_at dksX2_adds_2 11 rfl rfl)
theorem dX2_adds_61 : decode cX2_adds 61 = .ok (.iconst 4, 1) := dk_7 (dk_at dksX2_adds_2 13 rfl rfl)
theorem dX2_adds_62 : decode cX2_adds 62 = .ok (.iadd, 1) := dk_96 (dk_at dksX2_adds_2 14 rfl rfl)
theorem dX2_adds_63 : decode cX2_adds 63 = .ok (.iload 5, 2) := dk_21 5 (dk_at dksX2_adds_2 15 rfl rfl)
theorem dX2_adds_65 : decode cX2_adds 65 = .ok (.iastore, 1) := dk_79 (dk_at dksX2_adds_2 17 rfl rfl)
theorem dX2_adds_66 : decode cX2_adds 66 = .ok (.aload_n 0, 1) := dk_42 (dk_at dksX2_adds_2 18 rfl rfl)
theorem dX2_adds_67 : decode cX2_adds 67 = .ok (.getfield 7, 3) := dk_180 0 7 (dk_at dksX2_adds_2 19 rfl rfl)
theorem dX2_adds_70 : decode cX2_adds 70 = .ok (.iload 7, 2) := dk_21 7 (dk_at dksX2_adds_2 22 rfl rfl)
theorem dX2_adds_72 : decode cX2_adds 72 = .ok (.iconst 5, 1) := dk_8 (dk_at dksX2_adds_3 0 rfl rfl)
theorem dX2_adds_73 : decode cX2_adds 73 = .ok (.iadd, 1) := dk_96 (dk_at dksX2_adds_3 1 rfl rfl)
theorem dX2_adds_74 : decode cX2_adds 74 = .ok (.iload 6, 2) := dk_21 6 (dk_at dksX2_adds_3 2 rfl rfl)
theorem dX2_adds_76 : decode cX2_adds 76 = .ok (.iastore, 1) := dk_79 (dk_at dksX2_adds_3 4 rfl rfl)
theorem dX2_adds_77 : decode cX2_adds 77 = .ok (.aload_n 0, 1) := dk_42 (dk_at dksX2_adds_3 5 rfl rfl)
theorem dX2_adds_78 : decode cX2_adds 78 = .ok (.getfield 7, 3) := dk_180 0 7 (dk_at dksX2_adds_3 6 rfl rfl)
theorem dX2_adds_81 : decode cX2_adds 81 = .ok (.iconst 1, 1) := dk_4 (dk_at dksX2_adds_3 9 rfl rfl)
theorem dX2_adds_82 : decode cX2_adds 82 = .ok (.dup2, 1) := dk_92 (dk_at dksX2_adds_3 10 rfl rfl)
theorem dX2_adds_83 : decode cX2_adds 83 = .ok (.iaload, 1) := dk_46 (dk_at dksX2_adds_3 11 rfl rfl)
theorem dX2_adds_84 : decode cX2_adds 84 = .ok (.iconst 1, 1) := dk_4 (dk_at dksX2_adds_3 12 rfl rfl)
theorem dX2_adds_85 : decode cX2_adds 85 = .ok (.iadd, 1) := dk_96 (dk_at dksX2_adds_3 13 rfl rfl)
theorem dX2_adds_86 : decode cX2_adds 86 = .ok (.iastore, 1) := dk_79 (dk_at dksX2_adds_3 14 rfl rfl)
theorem dX2_adds_87 : decode cX2_adds 87 = .ok (.aload_n 0, 1) := dk_42 (dk_at dksX2_adds_3 15 rfl rfl)
theorem dX2_adds_88 : decode cX2_adds 88 = .ok (.getfield 7, 3) := dk_180 0 7 (dk_at dksX2_adds_3 16 rfl rfl)
theorem dX2_adds_91 : decode cX2_adds 91 = .ok (.iconst 1, 1) := dk_4 (dk_at dksX2_adds_3 19 rfl rfl)
theorem dX2_adds_92 : decode cX2_adds 92 = .ok (.iaload, 1) := dk_46 (dk_at dksX2_adds_3 20 rfl rfl)
theorem dX2_adds_93 : decode cX2_adds 93 = .ok (.iconst 1, 1) := dk_4 (dk_at dksX2_adds_3 21 rfl rfl)
theorem dX2_adds_94 : decode cX2_adds 94 = .ok (.isub, 1) := dk_100 (dk_at dksX2_adds_3 22 rfl rfl)
theorem dX2_adds_95 : decode cX2_adds 95 = .ok (.ireturn, 1) := dk_172 (dk_at dksX2_adds_3 23 rfl rfl)
abbrev cX2_done : ByteArray := prog_24_method_25_code
def yX2_done : MethodName := ⟨RX2, "done", "(I)I"⟩
def dkwX2_done_0 : List UInt8 := [27, 156, 0, 7, 27, 167, 0, 8, 42, 27, 182, 0, 84, 172]
abbrev dktX2_done_0 : List UInt8 := dkwX2_done_0 ++ []
theorem dksX2_done_0 : cX2_done.data.toList.drop 0 = dktX2_done_0 := by decide +kernel
theorem dX2_done_0 : decode cX2_done 0 = .ok (.iload_n 1, 1) := dk_27 (dk_at dksX2_done_0 0 rfl rfl)
theorem dX2_done_1 : decode cX2_done 1 = .ok (.ifCond .ge 7, 3) := dk_156 0 7 (dk_at dksX2_done_0 1 rfl rfl)
theorem dX2_done_4 : decode cX2_done 4 = .ok (.iload_n 1, 1) := dk_27 (dk_at dksX2_done_0 4 rfl rfl)
theorem dX2_done_5 : decode cX2_done 5 = .ok (.goto 8, 3) := dk_167 0 8 (dk_at dksX2_done_0 5 rfl rfl)
theorem dX2_done_8 : decode cX2_done 8 = .ok (.aload_n 0, 1) := dk_42 (dk_at dksX2_done_0 8 rfl rfl)
theorem dX2_done_9 : decode cX2_done 9 = .ok (.iload_n 1, 1) := dk_27 (dk_at dksX2_done_0 9 rfl rfl)
theorem dX2_done_10 : decode cX2_done 10 = .ok (.invokevirtual 84, 3) := dk_182 0 84 (dk_at dksX2_done_0 10 rfl rfl)
theorem dX2_done_13 : decode cX2_done 13 = .ok (.ireturn, 1) := dk_172 (dk_at dksX2_done_0 13 rfl rfl)
abbrev cX2_need : ByteArray := prog_24_method_27_code
def yX2_need : MethodName := ⟨RX2, "need", "(IIII)I"⟩
def dkwX2_need_0 : List UInt8 := [42, 182, 0, 81, 42, 42, 4, 27, 28, 29, 21, 4, 182, 0, 116, 182, 0, 113, 172]
abbrev dktX2_need_0 : List UInt8 := dkwX2_need_0 ++ []
theorem dksX2_need_0 : cX2_need.data.toList.drop 0 = dktX2_need_0 := by decide +kernel
theorem dX2_need_0 : decode cX2_need 0 = .ok (.aload_n 0, 1) := dk_42 (dk_at dksX2_need_0 0 rfl rfl)
theorem dX2_need_1 : decode cX2_need 1 = .ok (.invokevirtual 81, 3) := dk_182 0 81 (dk_at dksX2_need_0 1 rfl rfl)
theorem dX2_need_4 : decode cX2_need 4 = .ok (.aload_n 0, 1) := dk_42 (dk_at dksX2_need_0 4 rfl rfl)
theorem dX2_need_5 : decode cX2_need 5 = .ok (.aload_n 0, 1) := dk_42 (dk_at dksX2_need_0 5 rfl rfl)
theorem dX2_need_6 : decode cX2_need 6 = .ok (.iconst 1, 1) := dk_4 (dk_at dksX2_need_0 6 rfl rfl)
theorem dX2_need_7 : decode cX2_need 7 = .ok (.iload_n 1, 1) := dk_27 (dk_at dksX2_need_0 7 rfl rfl)
theorem dX2_need_8 : decode cX2_need 8 = .ok (.iload_n 2, 1) := dk_28 (dk_at dksX2_need_0 8 rfl rfl)
theorem dX2_need_9 : decode cX2_need 9 = .ok (.iload_n 3, 1) := dk_29 (dk_at dksX2_need_0 9 rfl rfl)
theorem dX2_need_10 : decode cX2_need 10 = .ok (.iload 4, 2) := dk_21 4 (dk_at dksX2_need_0 10 rfl rfl)
theorem dX2_need_12 : decode cX2_need 12 = .ok (.invokevirtual 116, 3) := dk_182 0 116 (dk_at dksX2_need_0 12 rfl rfl)
theorem dX2_need_15 : decode cX2_need 15 = .ok (.invokevirtual 113, 3) := dk_182 0 113 (dk_at dksX2_need_0 15 rfl rfl)
theorem dX2_need_18 : decode cX2_need 18 = .ok (.ireturn, 1) := dk_172 (dk_at dksX2_need_0 18 rfl rfl)
abbrev cX2_holdsOther : ByteArray := prog_24_method_24_code
def yX2_holdsOther : MethodName := ⟨RX2, "holdsOther", "(IIIII)I"⟩
def dkwX2_holdsOther_2 : List UInt8 := [160, 0, 8, 16, 252, 167, 0, 15, 42, 27, 28, 29, 21, 4, 21, 5, 3, 182, 0, 106, 172]
abbrev dktX2_holdsOther_2 : List UInt8 := dkwX2_holdsOther_2 ++ []
def dkwX2_holdsOther_1 : List UInt8 := [184, 0, 100, 153, 0, 9, 28, 21, 4, 160, 0, 6, 16, 254, 172, 42, 180, 0, 7, 4, 46, 16, 30]
abbrev dktX2_holdsOther_1 : List UInt8 := dkwX2_holdsOther_1 ++ dktX2_holdsOther_2
def dkwX2_holdsOther_0 : List UInt8 := [42, 28, 29, 182, 0, 90, 153, 0, 12, 42, 21, 4, 182, 0, 63, 154, 0, 5, 2, 172, 21, 5]
abbrev dktX2_holdsOther_0 : List UInt8 := dkwX2_holdsOther_0 ++ dktX2_holdsOther_1
theorem dksX2_holdsOther_0 : cX2_holdsOther.data.toList.drop 0 = dktX2_holdsOther_0 := by decide +kernel
theorem dksX2_holdsOther_1 : cX2_holdsOther.data.toList.drop 22 = dktX2_holdsOther_1 := dk_seg dksX2_holdsOther_0 22 rfl rfl
theorem dksX2_holdsOther_2 : cX2_holdsOther.data.toList.drop 45 = dktX2_holdsOther_2 := dk_seg dksX2_holdsOther_1 23 rfl rfl
theorem dX2_holdsOther_0 : decode cX2_holdsOther 0 = .ok (.aload_n 0, 1) := dk_42 (dk_at dksX2_holdsOther_0 0 rfl rfl)
theorem dX2_holdsOther_1 : decode cX2_holdsOther 1 = .ok (.iload_n 2, 1) := dk_28 (dk_at dksX2_holdsOther_0 1 rfl rfl)
theorem dX2_holdsOther_2 : decode cX2_holdsOther 2 = .ok (.iload_n 3, 1) := dk_29 (dk_at dksX2_holdsOther_0 2 rfl rfl)
theorem dX2_holdsOther_3 : decode cX2_holdsOther 3 = .ok (.invokevirtual 90, 3) := dk_182 0 90 (dk_at dksX2_holdsOther_0 3 rfl rfl)
theorem dX2_holdsOther_6 : decode cX2_holdsOther 6 = .ok (.ifCond .eq 12, 3) := dk_153 0 12 (dk_at dksX2_holdsOther_0 6 rfl rfl)
theorem dX2_holdsOther_9 : decode cX2_holdsOther 9 = .ok (.aload_n 0, 1) := dk_42 (dk_at dksX2_holdsOther_0 9 rfl rfl)
theorem dX2_holdsOther_10 : decode cX2_holdsOther 10 = .ok (.iload 4, 2) := dk_21 4 (dk_at dksX2_holdsOther_0 10 rfl rfl)
theorem dX2_holdsOther_12 : decode cX2_holdsOther 12 = .ok (.invokevirtual 63, 3) := dk_182 0 63 (dk_at dksX2_holdsOther_0 12 rfl rfl)
theorem dX2_holdsOther_15 : decode cX2_holdsOther 15 = .ok (.ifCond .ne 5, 3) := dk_154 0 5 (dk_at dksX2_holdsOther_0 15 rfl rfl)
theorem dX2_holdsOther_18 : decode cX2_holdsOther 18 = .ok (.iconst (-1), 1) := dk_2 (dk_at dksX2_holdsOther_0 18 rfl rfl)
theorem dX2_holdsOther_19 : decode cX2_holdsOther 19 = .ok (.ireturn, 1) := dk_172 (dk_at dksX2_holdsOther_0 19 rfl rfl)
theorem dX2_holdsOther_20 : decode cX2_holdsOther 20 = .ok (.iload 5, 2) := dk_21 5 (dk_at dksX2_holdsOther_0 20 rfl rfl)
theorem dX2_holdsOther_22 : decode cX2_holdsOther 22 = .ok (.invokestatic 100, 3) := dk_184 0 100 (dk_at dksX2_holdsOther_1 0 rfl rfl)
theorem dX2_holdsOther_25 : decode cX2_holdsOther 25 = .ok (.ifCond .eq 9, 3) := dk_153 0 9 (dk_at dksX2_holdsOther_1 3 rfl rfl)
theorem dX2_holdsOther_28 : decode cX2_holdsOther 28 = .ok (.iload_n 2, 1) := dk_28 (dk_at dksX2_holdsOther_1 6 rfl rfl)
theorem dX2_holdsOther_29 : decode cX2_holdsOther 29 = .ok (.iload 4, 2) := dk_21 4 (dk_at dksX2_holdsOther_1 7 rfl rfl)
theorem dX2_holdsOther_31 : decode cX2_holdsOther 31 = .ok (.if_icmp .ne 6, 3) := dk_160 0 6 (dk_at dksX2_holdsOther_1 9 rfl rfl)
theorem dX2_holdsOther_34 : decode cX2_holdsOther 34 = .ok (.bipush (-2), 2) := dk_16 254 (dk_at dksX2_holdsOther_1 12 rfl rfl)
theorem dX2_holdsOther_36 : decode cX2_holdsOther 36 = .ok (.ireturn, 1) := dk_172 (dk_at dksX2_holdsOther_1 14 rfl rfl)
theorem dX2_holdsOther_37 : decode cX2_holdsOther 37 = .ok (.aload_n 0, 1) := dk_42 (dk_at dksX2_holdsOther_1 15 rfl rfl)
theorem dX2_holdsOther_38 : decode cX2_holdsOther 38 = .ok (.getfield 7, 3) := dk_180 0 7 (dk_at dksX2_holdsOther_1 16 rfl rfl)
theorem dX2_holdsOther_41 : decode cX2_holdsOther 41 = .ok (.iconst 1, 1) := dk_4 (dk_at dksX2_holdsOther_1 19 rfl rfl)
theorem dX2_holdsOther_42 : decode cX2_holdsOther 42 = .ok (.iaload, 1) := dk_46 (dk_at dksX2_holdsOther_1 20 rfl rfl)
theorem dX2_holdsOther_43 : decode cX2_holdsOther 43 = .ok (.bipush 30, 2) := dk_16 30 (dk_at dksX2_holdsOther_1 21 rfl rfl)
theorem dX2_holdsOther_45 : decode cX2_holdsOther 45 = .ok (.if_icmp .ne 8, 3) := dk_160 0 8 (dk_at dksX2_holdsOther_2 0 rfl rfl)
theorem dX2_holdsOther_48 : decode cX2_holdsOther 48 = .ok (.bipush (-4), 2) := dk_16 252 (dk_at dksX2_holdsOther_2 3 rfl rfl)
theorem dX2_holdsOther_50 : decode cX2_holdsOther 50 = .ok (.goto 15, 3) := dk_167 0 15 (dk_at dksX2_holdsOther_2 5 rfl rfl)
theorem dX2_holdsOther_53 : decode cX2_holdsOther 53 = .ok (.aload_n 0, 1) := dk_42 (dk_at dksX2_holdsOther_2 8 rfl rfl)
theorem dX2_holdsOther_54 : decode cX2_holdsOther 54 = .ok (.iload_n 1, 1) := dk_27 (dk_at dksX2_holdsOther_2 9 rfl rfl)
theorem dX2_holdsOther_55 : decode cX2_holdsOther 55 = .ok (.iload_n 2, 1) := dk_28 (dk_at dksX2_holdsOther_2 10 rfl rfl)
theorem dX2_holdsOther_56 : decode cX2_holdsOther 56 = .ok (.iload_n 3, 1) := dk_29 (dk_at dksX2_holdsOther_2 11 rfl rfl)
theorem dX2_holdsOther_57 : decode cX2_holdsOther 57 = .ok (.iload 4, 2) := dk_21 4 (dk_at dksX2_holdsOther_2 12 rfl rfl)
theorem dX2_holdsOther_59 : decode cX2_holdsOther 59 = .ok (.iload 5, 2) := dk_21 5 (dk_at dksX2_holdsOther_2 14 rfl rfl)
theorem dX2_holdsOther_61 : decode cX2_holdsOther 61 = .ok (.iconst 0, 1) := dk_3 (dk_at dksX2_holdsOther_2 16 rfl rfl)
theorem dX2_holdsOther_62 : decode cX2_holdsOther 62 = .ok (.invokevirtual 106, 3) := dk_182 0 106 (dk_at dksX2_holdsOther_2 17 rfl rfl)
theorem dX2_holdsOther_65 : decode cX2_holdsOther 65 = .ok (.ireturn, 1) := dk_172 (dk_at dksX2_holdsOther_2 20 rfl rfl)
abbrev cX2_bar : ByteArray := prog_24_method_28_code
def yX2_bar : MethodName := ⟨RX2, "bar", "(IIII)I"⟩
def dkwX2_bar_0 : List UInt8 := [42, 182, 0, 81, 42, 42, 5, 27, 28, 29, 21, 4, 182, 0, 116, 182, 0, 113, 172]
abbrev dktX2_bar_0 : List UInt8 := dkwX2_bar_0 ++ []
theorem dksX2_bar_0 : cX2_bar.data.toList.drop 0 = dktX2_bar_0 := by decide +kernel
theorem dX2_bar_0 : decode cX2_bar 0 = .ok (.aload_n 0, 1) := dk_42 (dk_at dksX2_bar_0 0 rfl rfl)
theorem dX2_bar_1 : decode cX2_bar 1 = .ok (.invokevirtual 81, 3) := dk_182 0 81 (dk_at dksX2_bar_0 1 rfl rfl)
theorem dX2_bar_4 : decode cX2_bar 4 = .ok (.aload_n 0, 1) := dk_42 (dk_at dksX2_bar_0 4 rfl rfl)
theorem dX2_bar_5 : decode cX2_bar 5 = .ok (.aload_n 0, 1) := dk_42 (dk_at dksX2_bar_0 5 rfl rfl)
theorem dX2_bar_6 : decode cX2_bar 6 = .ok (.iconst 2, 1) := dk_5 (dk_at dksX2_bar_0 6 rfl rfl)
theorem dX2_bar_7 : decode cX2_bar 7 = .ok (.iload_n 1, 1) := dk_27 (dk_at dksX2_bar_0 7 rfl rfl)
theorem dX2_bar_8 : decode cX2_bar 8 = .ok (.iload_n 2, 1) := dk_28 (dk_at dksX2_bar_0 8 rfl rfl)
theorem dX2_bar_9 : decode cX2_bar 9 = .ok (.iload_n 3, 1) := dk_29 (dk_at dksX2_bar_0 9 rfl rfl)
theorem dX2_bar_10 : decode cX2_bar 10 = .ok (.iload 4, 2) := dk_21 4 (dk_at dksX2_bar_0 10 rfl rfl)
theorem dX2_bar_12 : decode cX2_bar 12 = .ok (.invokevirtual 116, 3) := dk_182 0 116 (dk_at dksX2_bar_0 12 rfl rfl)
theorem dX2_bar_15 : decode cX2_bar 15 = .ok (.invokevirtual 113, 3) := dk_182 0 113 (dk_at dksX2_bar_0 15 rfl rfl)
theorem dX2_bar_18 : decode cX2_bar 18 = .ok (.ireturn, 1) := dk_172 (dk_at dksX2_bar_0 18 rfl rfl)
abbrev cX2_drop : ByteArray := prog_24_method_29_code
def yX2_drop : MethodName := ⟨RX2, "drop", "()I"⟩
def dkwX2_drop_1 : List UInt8 := [100, 79, 42, 42, 180, 0, 7, 4, 46, 182, 0, 84, 172]
abbrev dktX2_drop_1 : List UInt8 := dkwX2_drop_1 ++ []
def dkwX2_drop_0 : List UInt8 := [42, 182, 0, 81, 42, 180, 0, 7, 4, 46, 154, 0, 6, 16, 253, 172, 42, 180, 0, 7, 4, 92, 46, 4]
abbrev dktX2_drop_0 : List UInt8 := dkwX2_drop_0 ++ dktX2_drop_1
theorem dksX2_drop_0 : cX2_drop.data.toList.drop 0 = dktX2_drop_0 := by decide +kernel
theorem dksX2_drop_1 : cX2_drop.data.toList.drop 24 = dktX2_drop_1 := dk_seg dksX2_drop_0 24 rfl rfl
theorem dX2_drop_0 : decode cX2_drop 0 = .ok (.aload_n 0, 1) := dk_42 (dk_at dksX2_drop_0 0 rfl rfl)
theorem dX2_drop_1 : decode cX2_drop 1 = .ok (.invokevirtual 81, 3) := dk_182 0 81 (dk_at dksX2_drop_0 1 rfl rfl)
theorem dX2_drop_4 : decode cX2_drop 4 = .ok (.aload_n 0, 1) := dk_42 (dk_at dksX2_drop_0 4 rfl rfl)
theorem dX2_drop_5 : decode cX2_drop 5 = .ok (.getfield 7, 3) := dk_180 0 7 (dk_at dksX2_drop_0 5 rfl rfl)
theorem dX2_drop_8 : decode cX2_drop 8 = .ok (.iconst 1, 1) := dk_4 (dk_at dksX2_drop_0 8 rfl rfl)
theorem dX2_drop_9 : decode cX2_drop 9 = .ok (.iaload, 1) := dk_46 (dk_at dksX2_drop_0 9 rfl rfl)
theorem dX2_drop_10 : decode cX2_drop 10 = .ok (.ifCond .ne 6, 3) := dk_154 0 6 (dk_at dksX2_drop_0 10 rfl rfl)
theorem dX2_drop_13 : decode cX2_drop 13 = .ok (.bipush (-3), 2) := dk_16 253 (dk_at dksX2_drop_0 13 rfl rfl)
theorem dX2_drop_15 : decode cX2_drop 15 = .ok (.ireturn, 1) := dk_172 (dk_at dksX2_drop_0 15 rfl rfl)
theorem dX2_drop_16 : decode cX2_drop 16 = .ok (.aload_n 0, 1) := dk_42 (dk_at dksX2_drop_0 16 rfl rfl)
theorem dX2_drop_17 : decode cX2_drop 17 = .ok (.getfield 7, 3) := dk_180 0 7 (dk_at dksX2_drop_0 17 rfl rfl)
theorem dX2_drop_20 : decode cX2_drop 20 = .ok (.iconst 1, 1) := dk_4 (dk_at dksX2_drop_0 20 rfl rfl)
theorem dX2_drop_21 : decode cX2_drop 21 = .ok (.dup2, 1) := dk_92 (dk_at dksX2_drop_0 21 rfl rfl)
theorem dX2_drop_22 : decode cX2_drop 22 = .ok (.iaload, 1) := dk_46 (dk_at dksX2_drop_0 22 rfl rfl)
theorem dX2_drop_23 : decode cX2_drop 23 = .ok (.iconst 1, 1) := dk_4 (dk_at dksX2_drop_0 23 rfl rfl)
theorem dX2_drop_24 : decode cX2_drop 24 = .ok (.isub, 1) := dk_100 (dk_at dksX2_drop_1 0 rfl rfl)
theorem dX2_drop_25 : decode cX2_drop 25 = .ok (.iastore, 1) := dk_79 (dk_at dksX2_drop_1 1 rfl rfl)
theorem dX2_drop_26 : decode cX2_drop 26 = .ok (.aload_n 0, 1) := dk_42 (dk_at dksX2_drop_1 2 rfl rfl)
theorem dX2_drop_27 : decode cX2_drop 27 = .ok (.aload_n 0, 1) := dk_42 (dk_at dksX2_drop_1 3 rfl rfl)
theorem dX2_drop_28 : decode cX2_drop 28 = .ok (.getfield 7, 3) := dk_180 0 7 (dk_at dksX2_drop_1 4 rfl rfl)
theorem dX2_drop_31 : decode cX2_drop 31 = .ok (.iconst 1, 1) := dk_4 (dk_at dksX2_drop_1 7 rfl rfl)
theorem dX2_drop_32 : decode cX2_drop 32 = .ok (.iaload, 1) := dk_46 (dk_at dksX2_drop_1 8 rfl rfl)
theorem dX2_drop_33 : decode cX2_drop 33 = .ok (.invokevirtual 84, 3) := dk_182 0 84 (dk_at dksX2_drop_1 9 rfl rfl)
theorem dX2_drop_36 : decode cX2_drop 36 = .ok (.ireturn, 1) := dk_172 (dk_at dksX2_drop_1 12 rfl rfl)
abbrev cX2_rule : ByteArray := prog_24_method_32_code
def yX2_rule : MethodName := ⟨RX2, "rule", "(II)I"⟩
def dkwX2_rule_4 : List UInt8 := [27, 182, 0, 126, 167, 0, 5, 16, 251, 172, 16, 254, 172]
abbrev dktX2_rule_4 : List UInt8 := dkwX2_rule_4 ++ []
def dkwX2_rule_3 : List UInt8 := [184, 0, 59, 153, 0, 12, 42, 27, 28, 182, 0, 87, 167, 0, 5, 16, 251, 172, 29, 6, 160, 0, 11, 42]
abbrev dktX2_rule_3 : List UInt8 := dkwX2_rule_3 ++ dktX2_rule_4
def dkwX2_rule_2 : List UInt8 := [29, 172, 29, 6, 160, 0, 8, 16, 251, 167, 0, 9, 42, 27, 28, 182, 0, 87, 172, 29, 4, 5]
abbrev dktX2_rule_2 : List UInt8 := dkwX2_rule_2 ++ dktX2_rule_3
def dkwX2_rule_1 : List UInt8 := [170, 0, 0, 0, 0, 94, 0, 0, 0, 0, 0, 0, 0, 5, 0, 0, 0, 38, 0, 0, 0, 40, 0, 0, 0, 57, 0, 0, 0, 57, 0, 0, 0, 40, 0, 0, 0, 78]
abbrev dktX2_rule_1 : List UInt8 := dkwX2_rule_1 ++ dktX2_rule_2
def dkwX2_rule_0 : List UInt8 := [42, 27, 182, 0, 123, 154, 0, 5, 2, 172, 42, 27, 3, 182, 0, 87, 62, 28]
abbrev dktX2_rule_0 : List UInt8 := dkwX2_rule_0 ++ dktX2_rule_1
theorem dksX2_rule_0 : cX2_rule.data.toList.drop 0 = dktX2_rule_0 := by decide +kernel
theorem dksX2_rule_1 : cX2_rule.data.toList.drop 18 = dktX2_rule_1 := dk_seg dksX2_rule_0 18 rfl rfl
theorem dksX2_rule_2 : cX2_rule.data.toList.drop 56 = dktX2_rule_2 := dk_seg dksX2_rule_1 38 rfl rfl
theorem dksX2_rule_3 : cX2_rule.data.toList.drop 78 = dktX2_rule_3 := dk_seg dksX2_rule_2 22 rfl rfl
theorem dksX2_rule_4 : cX2_rule.data.toList.drop 102 = dktX2_rule_4 := dk_seg dksX2_rule_3 24 rfl rfl
theorem dX2_rule_0 : decode cX2_rule 0 = .ok (.aload_n 0, 1) := dk_42 (dk_at dksX2_rule_0 0 rfl rfl)
theorem dX2_rule_1 : decode cX2_rule 1 = .ok (.iload_n 1, 1) := dk_27 (dk_at dksX2_rule_0 1 rfl rfl)
theorem dX2_rule_2 : decode cX2_rule 2 = .ok (.invokevirtual 123, 3) := dk_182 0 123 (dk_at dksX2_rule_0 2 rfl rfl)
theorem dX2_rule_5 : decode cX2_rule 5 = .ok (.ifCond .ne 5, 3) := dk_154 0 5 (dk_at dksX2_rule_0 5 rfl rfl)
theorem dX2_rule_8 : decode cX2_rule 8 = .ok (.iconst (-1), 1) := dk_2 (dk_at dksX2_rule_0 8 rfl rfl)
theorem dX2_rule_9 : decode cX2_rule 9 = .ok (.ireturn, 1) := dk_172 (dk_at dksX2_rule_0 9 rfl rfl)
theorem dX2_rule_10 : decode cX2_rule 10 = .ok (.aload_n 0, 1) := dk_42 (dk_at dksX2_rule_0 10 rfl rfl)
theorem dX2_rule_11 : decode cX2_rule 11 = .ok (.iload_n 1, 1) := dk_27 (dk_at dksX2_rule_0 11 rfl rfl)
theorem dX2_rule_12 : decode cX2_rule 12 = .ok (.iconst 0, 1) := dk_3 (dk_at dksX2_rule_0 12 rfl rfl)
theorem dX2_rule_13 : decode cX2_rule 13 = .ok (.invokevirtual 87, 3) := dk_182 0 87 (dk_at dksX2_rule_0 13 rfl rfl)
theorem dX2_rule_16 : decode cX2_rule 16 = .ok (.istore_n 3, 1) := dk_62 (dk_at dksX2_rule_0 16 rfl rfl)
theorem dX2_rule_17 : decode cX2_rule 17 = .ok (.iload_n 2, 1) := dk_28 (dk_at dksX2_rule_0 17 rfl rfl)
theorem dX2_rule_18 : decode cX2_rule 18 = .ok (.tableswitch 94 0 5 #[38, 40, 57, 57, 40, 78], 38) := by decide +kernel
theorem dX2_rule_56 : decode cX2_rule 56 = .ok (.iload_n 3, 1) := dk_29 (dk_at dksX2_rule_2 0 rfl rfl)
theorem dX2_rule_57 : decode cX2_rule 57 = .ok (.ireturn, 1) := dk_172 (dk_at dksX2_rule_2 1 rfl rfl)
theorem dX2_rule_58 : decode cX2_rule 58 = .ok (.iload_n 3, 1) := dk_29 (dk_at dksX2_rule_2 2 rfl rfl)
theorem dX2_rule_59 : decode cX2_rule 59 = .ok (.iconst 3, 1) := dk_6 (dk_at dksX2_rule_2 3 rfl rfl)
theorem dX2_rule_60 : decode cX2_rule 60 = .ok (.if_icmp .ne 8, 3) := dk_160 0 8 (dk_at dksX2_rule_2 4 rfl rfl)
theorem dX2_rule_63 : decode cX2_rule 63 = .ok (.bipush (-5), 2) := dk_16 251 (dk_at dksX2_rule_2 7 rfl rfl)
theorem dX2_rule_65 : decode cX2_rule 65 = .ok (.goto 9, 3) := dk_167 0 9 (dk_at dksX2_rule_2 9 rfl rfl)
theorem dX2_rule_68 : decode cX2_rule 68 = .ok (.aload_n 0, 1) := dk_42 (dk_at dksX2_rule_2 12 rfl rfl)
theorem dX2_rule_69 : decode cX2_rule 69 = .ok (.iload_n 1, 1) := dk_27 (dk_at dksX2_rule_2 13 rfl rfl)
theorem dX2_rule_70 : decode cX2_rule 70 = .ok (.iload_n 2, 1) := dk_28 (dk_at dksX2_rule_2 14 rfl rfl)
theorem dX2_rule_71 : decode cX2_rule 71 = .ok (.invokevirtual 87, 3) := dk_182 0 87 (dk_at dksX2_rule_2 15 rfl rfl)
theorem dX2_rule_74 : decode cX2_rule 74 = .ok (.ireturn, 1) := dk_172 (dk_at dksX2_rule_2 18 rfl rfl)
theorem dX2_rule_75 : decode cX2_rule 75 = .ok (.iload_n 3, 1) := dk_29 (dk_at dksX2_rule_2 19 rfl rfl)
theorem dX2_rule_76 : decode cX2_rule 76 = .ok (.iconst 1, 1) := dk_4 (dk_at dksX2_rule_2 20 rfl rfl)
theorem dX2_rule_77 : decode cX2_rule 77 = .ok (.iconst 2, 1) := dk_5 (dk_at dksX2_rule_2 21 rfl rfl)
theorem dX2_rule_78 : decode cX2_rule 78 = .ok (.invokestatic 59, 3) := dk_184 0 59 (dk_at dksX2_rule_3 0 rfl rfl)
theorem dX2_rule_81 : decode cX2_rule 81 = .ok (.ifCond .eq 12, 3) := dk_153 0 12 (dk_at dksX2_rule_3 3 rfl rfl)
theorem dX2_rule_84 : decode cX2_rule 84 = .ok (.aload_n 0, 1) := dk_42 (dk_at dksX2_rule_3 6 rfl rfl)
theorem dX2_rule_85 : decode cX2_rule 85 = .ok (.iload_n 1, 1) := dk_27 (dk_at dksX2_rule_3 7 rfl rfl)
theorem dX2_rule_86 : decode cX2_rule 86 = .ok (.iload_n 2, 1) := dk_28 (dk_at dksX2_rule_3 8 rfl rfl)
theorem dX2_rule_87 : decode cX2_rule 87 = .ok (.invokevirtual 87, 3) := dk_182 0 87 (dk_at dksX2_rule_3 9 rfl rfl)
theorem dX2_rule_90 : decode cX2_rule 90 = .ok (.goto 5, 3) := dk_167 0 5 (dk_at dksX2_rule_3 12 rfl rfl)
theorem dX2_rule_93 : decode cX2_rule 93 = .ok (.bipush (-5), 2) := dk_16 251 (dk_at dksX2_rule_3 15 rfl rfl)
theorem dX2_rule_95 : decode cX2_rule 95 = .ok (.ireturn, 1) := dk_172 (dk_at dksX2_rule_3 17 rfl rfl)
theorem dX2_rule_96 : decode cX2_rule 96 = .ok (.iload_n 3, 1) := dk_29 (dk_at dksX2_rule_3 18 rfl rfl)
theorem dX2_rule_97 : decode cX2_rule 97 = .ok (.iconst 3, 1) := dk_6 (dk_at dksX2_rule_3 19 rfl rfl)
theorem dX2_rule_98 : decode cX2_rule 98 = .ok (.if_icmp .ne 11, 3) := dk_160 0 11 (dk_at dksX2_rule_3 20 rfl rfl)
theorem dX2_rule_101 : decode cX2_rule 101 = .ok (.aload_n 0, 1) := dk_42 (dk_at dksX2_rule_3 23 rfl rfl)
theorem dX2_rule_102 : decode cX2_rule 102 = .ok (.iload_n 1, 1) := dk_27 (dk_at dksX2_rule_4 0 rfl rfl)
theorem dX2_rule_103 : decode cX2_rule 103 = .ok (.invokevirtual 126, 3) := dk_182 0 126 (dk_at dksX2_rule_4 1 rfl rfl)
theorem dX2_rule_106 : decode cX2_rule 106 = .ok (.goto 5, 3) := dk_167 0 5 (dk_at dksX2_rule_4 4 rfl rfl)
theorem dX2_rule_109 : decode cX2_rule 109 = .ok (.bipush (-5), 2) := dk_16 251 (dk_at dksX2_rule_4 7 rfl rfl)
theorem dX2_rule_111 : decode cX2_rule 111 = .ok (.ireturn, 1) := dk_172 (dk_at dksX2_rule_4 9 rfl rfl)
theorem dX2_rule_112 : decode cX2_rule 112 = .ok (.bipush (-2), 2) := dk_16 254 (dk_at dksX2_rule_4 10 rfl rfl)
theorem dX2_rule_114 : decode cX2_rule 114 = .ok (.ireturn, 1) := dk_172 (dk_at dksX2_rule_4 12 rfl rfl)
abbrev cX2_isRule : ByteArray := prog_24_method_7_code
def yX2_isRule : MethodName := ⟨RX2, "isRule", "(I)Z"⟩
def dkwX2_isRule_0 : List UInt8 := [27, 3, 42, 180, 0, 7, 4, 46, 4, 100, 184, 0, 59, 172]
abbrev dktX2_isRule_0 : List UInt8 := dkwX2_isRule_0 ++ []
theorem dksX2_isRule_0 : cX2_isRule.data.toList.drop 0 = dktX2_isRule_0 := by decide +kernel
theorem dX2_isRule_0 : decode cX2_isRule 0 = .ok (.iload_n 1, 1) := dk_27 (dk_at dksX2_isRule_0 0 rfl rfl)
theorem dX2_isRule_1 : decode cX2_isRule 1 = .ok (.iconst 0, 1) := dk_3 (dk_at dksX2_isRule_0 1 rfl rfl)
theorem dX2_isRule_2 : decode cX2_isRule 2 = .ok (.aload_n 0, 1) := dk_42 (dk_at dksX2_isRule_0 2 rfl rfl)
theorem dX2_isRule_3 : decode cX2_isRule 3 = .ok (.getfield 7, 3) := dk_180 0 7 (dk_at dksX2_isRule_0 3 rfl rfl)
theorem dX2_isRule_6 : decode cX2_isRule 6 = .ok (.iconst 1, 1) := dk_4 (dk_at dksX2_isRule_0 6 rfl rfl)
theorem dX2_isRule_7 : decode cX2_isRule 7 = .ok (.iaload, 1) := dk_46 (dk_at dksX2_isRule_0 7 rfl rfl)
theorem dX2_isRule_8 : decode cX2_isRule 8 = .ok (.iconst 1, 1) := dk_4 (dk_at dksX2_isRule_0 8 rfl rfl)
theorem dX2_isRule_9 : decode cX2_isRule 9 = .ok (.isub, 1) := dk_100 (dk_at dksX2_isRule_0 9 rfl rfl)
theorem dX2_isRule_10 : decode cX2_isRule 10 = .ok (.invokestatic 59, 3) := dk_184 0 59 (dk_at dksX2_isRule_0 10 rfl rfl)
theorem dX2_isRule_13 : decode cX2_isRule 13 = .ok (.ireturn, 1) := dk_172 (dk_at dksX2_isRule_0 13 rfl rfl)
abbrev cX2_learnedMany : ByteArray := prog_24_method_31_code
def yX2_learnedMany : MethodName := ⟨RX2, "learnedMany", "(I)I"⟩
def dkwX2_learnedMany_1 : List UInt8 := [167, 0, 4, 4, 96, 61, 132, 3, 1, 167, 255, 229, 28, 172]
abbrev dktX2_learnedMany_1 : List UInt8 := dkwX2_learnedMany_1 ++ []
def dkwX2_learnedMany_0 : List UInt8 := [3, 61, 3, 62, 29, 16, 6, 162, 0, 27, 28, 42, 27, 29, 182, 0, 120, 2, 160, 0, 7, 3]
abbrev dktX2_learnedMany_0 : List UInt8 := dkwX2_learnedMany_0 ++ dktX2_learnedMany_1
theorem dksX2_learnedMany_0 : cX2_learnedMany.data.toList.drop 0 = dktX2_learnedMany_0 := by decide +kernel
theorem dksX2_learnedMany_1 : cX2_learnedMany.data.toList.drop 22 = dktX2_learnedMany_1 := dk_seg dksX2_learnedMany_0 22 rfl rfl
theorem dX2_learnedMany_0 : decode cX2_learnedMany 0 = .ok (.iconst 0, 1) := dk_3 (dk_at dksX2_learnedMany_0 0 rfl rfl)
theorem dX2_learnedMany_1 : decode cX2_learnedMany 1 = .ok (.istore_n 2, 1) := dk_61 (dk_at dksX2_learnedMany_0 1 rfl rfl)
theorem dX2_learnedMany_2 : decode cX2_learnedMany 2 = .ok (.iconst 0, 1) := dk_3 (dk_at dksX2_learnedMany_0 2 rfl rfl)
theorem dX2_learnedMany_3 : decode cX2_learnedMany 3 = .ok (.istore_n 3, 1) := dk_62 (dk_at dksX2_learnedMany_0 3 rfl rfl)
theorem dX2_learnedMany_4 : decode cX2_learnedMany 4 = .ok (.iload_n 3, 1) := dk_29 (dk_at dksX2_learnedMany_0 4 rfl rfl)
theorem dX2_learnedMany_5 : decode cX2_learnedMany 5 = .ok (.bipush 6, 2) := dk_16 6 (dk_at dksX2_learnedMany_0 5 rfl rfl)
theorem dX2_learnedMany_7 : decode cX2_learnedMany 7 = .ok (.if_icmp .ge 27, 3) := dk_162 0 27 (dk_at dksX2_learnedMany_0 7 rfl rfl)
theorem dX2_learnedMany_10 : decode cX2_learnedMany 10 = .ok (.iload_n 2, 1) := dk_28 (dk_at dksX2_learnedMany_0 10 rfl rfl)
theorem dX2_learnedMany_11 : decode cX2_learnedMany 11 = .ok (.aload_n 0, 1) := dk_42 (dk_at dksX2_learnedMany_0 11 rfl rfl)
theorem dX2_learnedMany_12 : decode cX2_learnedMany 12 = .ok (.iload_n 1, 1) := dk_27 (dk_at dksX2_learnedMany_0 12 rfl rfl)
theorem dX2_learnedMany_13 : decode cX2_learnedMany 13 = .ok (.iload_n 3, 1) := dk_29 (dk_at dksX2_learnedMany_0 13 rfl rfl)
theorem dX2_learnedMany_14 : decode cX2_learnedMany 14 = .ok (.invokevirtual 120, 3) := dk_182 0 120 (dk_at dksX2_learnedMany_0 14 rfl rfl)
theorem dX2_learnedMany_17 : decode cX2_learnedMany 17 = .ok (.iconst (-1), 1) := dk_2 (dk_at dksX2_learnedMany_0 17 rfl rfl)
theorem dX2_learnedMany_18 : decode cX2_learnedMany 18 = .ok (.if_icmp .ne 7, 3) := dk_160 0 7 (dk_at dksX2_learnedMany_0 18 rfl rfl)
theorem dX2_learnedMany_21 : decode cX2_learnedMany 21 = .ok (.iconst 0, 1) := dk_3 (dk_at dksX2_learnedMany_0 21 rfl rfl)
theorem dX2_learnedMany_22 : decode cX2_learnedMany 22 = .ok (.goto 4, 3) := dk_167 0 4 (dk_at dksX2_learnedMany_1 0 rfl rfl)
theorem dX2_learnedMany_25 : decode cX2_learnedMany 25 = .ok (.iconst 1, 1) := dk_4 (dk_at dksX2_learnedMany_1 3 rfl rfl)
theorem dX2_learnedMany_26 : decode cX2_learnedMany 26 = .ok (.iadd, 1) := dk_96 (dk_at dksX2_learnedMany_1 4 rfl rfl)
theorem dX2_learnedMany_27 : decode cX2_learnedMany 27 = .ok (.istore_n 2, 1) := dk_61 (dk_at dksX2_learnedMany_1 5 rfl rfl)
theorem dX2_learnedMany_28 : decode cX2_learnedMany 28 = .ok (.iinc 3 1, 3) := dk_132 3 1 (dk_at dksX2_learnedMany_1 6 rfl rfl)
theorem dX2_learnedMany_31 : decode cX2_learnedMany 31 = .ok (.goto (-27), 3) := dk_167 255 229 (dk_at dksX2_learnedMany_1 9 rfl rfl)
theorem dX2_learnedMany_34 : decode cX2_learnedMany 34 = .ok (.iload_n 2, 1) := dk_28 (dk_at dksX2_learnedMany_1 12 rfl rfl)
theorem dX2_learnedMany_35 : decode cX2_learnedMany 35 = .ok (.ireturn, 1) := dk_172 (dk_at dksX2_learnedMany_1 13 rfl rfl)
abbrev cX2_learnedState : ByteArray := prog_24_method_30_code
def yX2_learnedState : MethodName := ⟨RX2, "learnedState", "(II)I"⟩
def dkwX2_learnedState_1 : List UInt8 := [167, 255, 242, 29, 16, 7, 112, 4, 100, 172]
abbrev dktX2_learnedState_1 : List UInt8 := dkwX2_learnedState_1 ++ []
def dkwX2_learnedState_0 : List UInt8 := [42, 27, 8, 182, 0, 87, 62, 3, 54, 4, 21, 4, 28, 162, 0, 14, 29, 16, 7, 108, 62, 132, 4, 1]
abbrev dktX2_learnedState_0 : List UInt8 := dkwX2_learnedState_0 ++ dktX2_learnedState_1
theorem dksX2_learnedState_0 : cX2_learnedState.data.toList.drop 0 = dktX2_learnedState_0 := by decide +kernel
theorem dksX2_learnedState_1 : cX2_learnedState.data.toList.drop 24 = dktX2_learnedState_1 := dk_seg dksX2_learnedState_0 24 rfl rfl
theorem dX2_learnedState_0 : decode cX2_learnedState 0 = .ok (.aload_n 0, 1) := dk_42 (dk_at dksX2_learnedState_0 0 rfl rfl)
theorem dX2_learnedState_1 : decode cX2_learnedState 1 = .ok (.iload_n 1, 1) := dk_27 (dk_at dksX2_learnedState_0 1 rfl rfl)
theorem dX2_learnedState_2 : decode cX2_learnedState 2 = .ok (.iconst 5, 1) := dk_8 (dk_at dksX2_learnedState_0 2 rfl rfl)
theorem dX2_learnedState_3 : decode cX2_learnedState 3 = .ok (.invokevirtual 87, 3) := dk_182 0 87 (dk_at dksX2_learnedState_0 3 rfl rfl)
theorem dX2_learnedState_6 : decode cX2_learnedState 6 = .ok (.istore_n 3, 1) := dk_62 (dk_at dksX2_learnedState_0 6 rfl rfl)
theorem dX2_learnedState_7 : decode cX2_learnedState 7 = .ok (.iconst 0, 1) := dk_3 (dk_at dksX2_learnedState_0 7 rfl rfl)
theorem dX2_learnedState_8 : decode cX2_learnedState 8 = .ok (.istore 4, 2) := dk_54 4 (dk_at dksX2_learnedState_0 8 rfl rfl)
theorem dX2_learnedState_10 : decode cX2_learnedState 10 = .ok (.iload 4, 2) := dk_21 4 (dk_at dksX2_learnedState_0 10 rfl rfl)
theorem dX2_learnedState_12 : decode cX2_learnedState 12 = .ok (.iload_n 2, 1) := dk_28 (dk_at dksX2_learnedState_0 12 rfl rfl)
theorem dX2_learnedState_13 : decode cX2_learnedState 13 = .ok (.if_icmp .ge 14, 3) := dk_162 0 14 (dk_at dksX2_learnedState_0 13 rfl rfl)
theorem dX2_learnedState_16 : decode cX2_learnedState 16 = .ok (.iload_n 3, 1) := dk_29 (dk_at dksX2_learnedState_0 16 rfl rfl)
theorem dX2_learnedState_17 : decode cX2_learnedState 17 = .ok (.bipush 7, 2) := dk_16 7 (dk_at dksX2_learnedState_0 17 rfl rfl)
theorem dX2_learnedState_19 : decode cX2_learnedState 19 = .ok (.idiv, 1) := dk_108 (dk_at dksX2_learnedState_0 19 rfl rfl)
theorem dX2_learnedState_20 : decode cX2_learnedState 20 = .ok (.istore_n 3, 1) := dk_62 (dk_at dksX2_learnedState_0 20 rfl rfl)
theorem dX2_learnedState_21 : decode cX2_learnedState 21 = .ok (.iinc 4 1, 3) := dk_132 4 1 (dk_at dksX2_learnedState_0 21 rfl rfl)
theorem dX2_learnedState_24 : decode cX2_learnedState 24 = .ok (.goto (-14), 3) := dk_167 255 242 (dk_at dksX2_learnedState_1 0 rfl rfl)
theorem dX2_learnedState_27 : decode cX2_learnedState 27 = .ok (.iload_n 3, 1) := dk_29 (dk_at dksX2_learnedState_1 3 rfl rfl)
theorem dX2_learnedState_28 : decode cX2_learnedState 28 = .ok (.bipush 7, 2) := dk_16 7 (dk_at dksX2_learnedState_1 4 rfl rfl)
theorem dX2_learnedState_30 : decode cX2_learnedState 30 = .ok (.irem, 1) := dk_112 (dk_at dksX2_learnedState_1 6 rfl rfl)
theorem dX2_learnedState_31 : decode cX2_learnedState 31 = .ok (.iconst 1, 1) := dk_4 (dk_at dksX2_learnedState_1 7 rfl rfl)
theorem dX2_learnedState_32 : decode cX2_learnedState 32 = .ok (.isub, 1) := dk_100 (dk_at dksX2_learnedState_1 8 rfl rfl)
theorem dX2_learnedState_33 : decode cX2_learnedState 33 = .ok (.ireturn, 1) := dk_172 (dk_at dksX2_learnedState_1 9 rfl rfl)
abbrev cX2_learned : ByteArray := prog_24_method_33_code
def yX2_learned : MethodName := ⟨RX2, "learned", "(II)I"⟩
def dkwX2_learned_2 : List UInt8 := [167, 0, 4, 29, 172]
abbrev dktX2_learned_2 : List UInt8 := dkwX2_learned_2 ++ []
def dkwX2_learned_1 : List UInt8 := [6, 160, 0, 12, 42, 27, 28, 182, 0, 120, 167, 0, 4, 2, 62, 29, 2, 160, 0, 8, 16, 251]
abbrev dktX2_learned_1 : List UInt8 := dkwX2_learned_1 ++ dktX2_learned_2
def dkwX2_learned_0 : List UInt8 := [42, 27, 182, 0, 123, 153, 0, 11, 42, 28, 182, 0, 63, 154, 0, 5, 2, 172, 42, 27, 3, 182, 0, 87]
abbrev dktX2_learned_0 : List UInt8 := dkwX2_learned_0 ++ dktX2_learned_1
theorem dksX2_learned_0 : cX2_learned.data.toList.drop 0 = dktX2_learned_0 := by decide +kernel
theorem dksX2_learned_1 : cX2_learned.data.toList.drop 24 = dktX2_learned_1 := dk_seg dksX2_learned_0 24 rfl rfl
theorem dksX2_learned_2 : cX2_learned.data.toList.drop 46 = dktX2_learned_2 := dk_seg dksX2_learned_1 22 rfl rfl
theorem dX2_learned_0 : decode cX2_learned 0 = .ok (.aload_n 0, 1) := dk_42 (dk_at dksX2_learned_0 0 rfl rfl)
theorem dX2_learned_1 : decode cX2_learned 1 = .ok (.iload_n 1, 1) := dk_27 (dk_at dksX2_learned_0 1 rfl rfl)
theorem dX2_learned_2 : decode cX2_learned 2 = .ok (.invokevirtual 123, 3) := dk_182 0 123 (dk_at dksX2_learned_0 2 rfl rfl)
theorem dX2_learned_5 : decode cX2_learned 5 = .ok (.ifCond .eq 11, 3) := dk_153 0 11 (dk_at dksX2_learned_0 5 rfl rfl)
theorem dX2_learned_8 : decode cX2_learned 8 = .ok (.aload_n 0, 1) := dk_42 (dk_at dksX2_learned_0 8 rfl rfl)
theorem dX2_learned_9 : decode cX2_learned 9 = .ok (.iload_n 2, 1) := dk_28 (dk_at dksX2_learned_0 9 rfl rfl)
theorem dX2_learned_10 : decode cX2_learned 10 = .ok (.invokevirtual 63, 3) := dk_182 0 63 (dk_at dksX2_learned_0 10 rfl rfl)
theorem dX2_learned_13 : decode cX2_learned 13 = .ok (.ifCond .ne 5, 3) := dk_154 0 5 (dk_at dksX2_learned_0 13 rfl rfl)
theorem dX2_learned_16 : decode cX2_learned 16 = .ok (.iconst (-1), 1) := dk_2 (dk_at dksX2_learned_0 16 rfl rfl)
theorem dX2_learned_17 : decode cX2_learned 17 = .ok (.ireturn, 1) := dk_172 (dk_at dksX2_learned_0 17 rfl rfl)
theorem dX2_learned_18 : decode cX2_learned 18 = .ok (.aload_n 0, 1) := dk_42 (dk_at dksX2_learned_0 18 rfl rfl)
theorem dX2_learned_19 : decode cX2_learned 19 = .ok (.iload_n 1, 1) := dk_27 (dk_at dksX2_learned_0 19 rfl rfl)
theorem dX2_learned_20 : decode cX2_learned 20 = .ok (.iconst 0, 1) := dk_3 (dk_at dksX2_learned_0 20 rfl rfl)
theorem dX2_learned_21 : decode cX2_learned 21 = .ok (.invokevirtual 87, 3) := dk_182 0 87 (dk_at dksX2_learned_0 21 rfl rfl)
theorem dX2_learned_24 : decode cX2_learned 24 = .ok (.iconst 3, 1) := dk_6 (dk_at dksX2_learned_1 0 rfl rfl)
theorem dX2_learned_25 : decode cX2_learned 25 = .ok (.if_icmp .ne 12, 3) := dk_160 0 12 (dk_at dksX2_learned_1 1 rfl rfl)
theorem dX2_learned_28 : decode cX2_learned 28 = .ok (.aload_n 0, 1) := dk_42 (dk_at dksX2_learned_1 4 rfl rfl)
theorem dX2_learned_29 : decode cX2_learned 29 = .ok (.iload_n 1, 1) := dk_27 (dk_at dksX2_learned_1 5 rfl rfl)
theorem dX2_learned_30 : decode cX2_learned 30 = .ok (.iload_n 2, 1) := dk_28 (dk_at dksX2_learned_1 6 rfl rfl)
theorem dX2_learned_31 : decode cX2_learned 31 = .ok (.invokevirtual 120, 3) := dk_182 0 120 (dk_at dksX2_learned_1 7 rfl rfl)
theorem dX2_learned_34 : decode cX2_learned 34 = .ok (.goto 4, 3) := dk_167 0 4 (dk_at dksX2_learned_1 10 rfl rfl)
theorem dX2_learned_37 : decode cX2_learned 37 = .ok (.iconst (-1), 1) := dk_2 (dk_at dksX2_learned_1 13 rfl rfl)
theorem dX2_learned_38 : decode cX2_learned 38 = .ok (.istore_n 3, 1) := dk_62 (dk_at dksX2_learned_1 14 rfl rfl)
theorem dX2_learned_39 : decode cX2_learned 39 = .ok (.iload_n 3, 1) := dk_29 (dk_at dksX2_learned_1 15 rfl rfl)
theorem dX2_learned_40 : decode cX2_learned 40 = .ok (.iconst (-1), 1) := dk_2 (dk_at dksX2_learned_1 16 rfl rfl)
theorem dX2_learned_41 : decode cX2_learned 41 = .ok (.if_icmp .ne 8, 3) := dk_160 0 8 (dk_at dksX2_learned_1 17 rfl rfl)
theorem dX2_learned_44 : decode cX2_learned 44 = .ok (.bipush (-5), 2) := dk_16 251 (dk_at dksX2_learned_1 20 rfl rfl)
theorem dX2_learned_46 : decode cX2_learned 46 = .ok (.goto 4, 3) := dk_167 0 4 (dk_at dksX2_learned_2 0 rfl rfl)
theorem dX2_learned_49 : decode cX2_learned 49 = .ok (.iload_n 3, 1) := dk_29 (dk_at dksX2_learned_2 3 rfl rfl)
theorem dX2_learned_50 : decode cX2_learned 50 = .ok (.ireturn, 1) := dk_172 (dk_at dksX2_learned_2 4 rfl rfl)
abbrev cX2_states : ByteArray := prog_24_method_44_code
def yX2_states : MethodName := ⟨RX2, "states", "(I)I"⟩
def dkwX2_states_0 : List UInt8 := [42, 182, 0, 158, 42, 27, 182, 0, 63, 153, 0, 12, 42, 180, 0, 35, 27, 46, 167, 0, 4, 2, 172]
abbrev dktX2_states_0 : List UInt8 := dkwX2_states_0 ++ []
theorem dksX2_states_0 : cX2_states.data.toList.drop 0 = dktX2_states_0 := by decide +kernel
theorem dX2_states_0 : decode cX2_states 0 = .ok (.aload_n 0, 1) := dk_42 (dk_at dksX2_states_0 0 rfl rfl)
theorem dX2_states_1 : decode cX2_states 1 = .ok (.invokevirtual 158, 3) := dk_182 0 158 (dk_at dksX2_states_0 1 rfl rfl)
theorem dX2_states_4 : decode cX2_states 4 = .ok (.aload_n 0, 1) := dk_42 (dk_at dksX2_states_0 4 rfl rfl)
theorem dX2_states_5 : decode cX2_states 5 = .ok (.iload_n 1, 1) := dk_27 (dk_at dksX2_states_0 5 rfl rfl)
theorem dX2_states_6 : decode cX2_states 6 = .ok (.invokevirtual 63, 3) := dk_182 0 63 (dk_at dksX2_states_0 6 rfl rfl)
theorem dX2_states_9 : decode cX2_states 9 = .ok (.ifCond .eq 12, 3) := dk_153 0 12 (dk_at dksX2_states_0 9 rfl rfl)
theorem dX2_states_12 : decode cX2_states 12 = .ok (.aload_n 0, 1) := dk_42 (dk_at dksX2_states_0 12 rfl rfl)
theorem dX2_states_13 : decode cX2_states 13 = .ok (.getfield 35, 3) := dk_180 0 35 (dk_at dksX2_states_0 13 rfl rfl)
theorem dX2_states_16 : decode cX2_states 16 = .ok (.iload_n 1, 1) := dk_27 (dk_at dksX2_states_0 16 rfl rfl)
theorem dX2_states_17 : decode cX2_states 17 = .ok (.iaload, 1) := dk_46 (dk_at dksX2_states_0 17 rfl rfl)
theorem dX2_states_18 : decode cX2_states 18 = .ok (.goto 4, 3) := dk_167 0 4 (dk_at dksX2_states_0 18 rfl rfl)
theorem dX2_states_21 : decode cX2_states 21 = .ok (.iconst (-1), 1) := dk_2 (dk_at dksX2_states_0 21 rfl rfl)
theorem dX2_states_22 : decode cX2_states 22 = .ok (.ireturn, 1) := dk_172 (dk_at dksX2_states_0 22 rfl rfl)
abbrev cX2_goesAll : ByteArray := prog_24_method_40_code
def yX2_goesAll : MethodName := ⟨RX2, "goesAll", "()V"⟩
def dkwX2_goesAll_0 : List UInt8 := [42, 16, 63, 182, 0, 152, 177]
abbrev dktX2_goesAll_0 : List UInt8 := dkwX2_goesAll_0 ++ []
theorem dksX2_goesAll_0 : cX2_goesAll.data.toList.drop 0 = dktX2_goesAll_0 := by decide +kernel
theorem dX2_goesAll_0 : decode cX2_goesAll 0 = .ok (.aload_n 0, 1) := dk_42 (dk_at dksX2_goesAll_0 0 rfl rfl)
theorem dX2_goesAll_1 : decode cX2_goesAll 1 = .ok (.bipush 63, 2) := dk_16 63 (dk_at dksX2_goesAll_0 1 rfl rfl)
theorem dX2_goesAll_3 : decode cX2_goesAll 3 = .ok (.invokevirtual 152, 3) := dk_182 0 152 (dk_at dksX2_goesAll_0 3 rfl rfl)
theorem dX2_goesAll_6 : decode cX2_goesAll 6 = .ok (.return_, 1) := dk_177 (dk_at dksX2_goesAll_0 6 rfl rfl)
abbrev cX2_goes : ByteArray := prog_24_method_39_code
def yX2_goes : MethodName := ⟨RX2, "goes", "(I)V"⟩
def dkwX2_goes_5 : List UInt8 := [132, 2, 1, 167, 255, 184, 177]
abbrev dktX2_goes_5 : List UInt8 := dkwX2_goes_5 ++ []
def dkwX2_goes_4 : List UInt8 := [180, 0, 7, 17, 0, 225, 5, 28, 104, 96, 4, 96, 46, 120, 2, 130, 182, 0, 135, 42, 182, 0, 149]
abbrev dktX2_goes_4 : List UInt8 := dkwX2_goes_4 ++ dktX2_goes_5
def dkwX2_goes_3 : List UInt8 := [160, 0, 45, 42, 16, 100, 28, 96, 42, 180, 0, 7, 17, 0, 225, 5, 28, 104, 96, 46, 4, 42]
abbrev dktX2_goes_3 : List UInt8 := dkwX2_goes_3 ++ dktX2_goes_4
def dkwX2_goes_2 : List UInt8 := [180, 0, 7, 5, 46, 162, 0, 68, 42, 180, 0, 129, 2, 160, 0, 60, 27, 28, 122, 4, 126, 4]
abbrev dktX2_goes_2 : List UInt8 := dkwX2_goes_2 ++ dktX2_goes_3
def dkwX2_goes_1 : List UInt8 := [180, 0, 35, 28, 42, 28, 182, 0, 146, 79, 132, 2, 1, 167, 255, 232, 42, 182, 0, 149, 3, 61, 28, 42]
abbrev dktX2_goes_1 : List UInt8 := dkwX2_goes_1 ++ dktX2_goes_2
def dkwX2_goes_0 : List UInt8 := [42, 3, 181, 0, 132, 42, 2, 181, 0, 129, 3, 61, 28, 42, 180, 0, 7, 3, 46, 162, 0, 20, 42]
abbrev dktX2_goes_0 : List UInt8 := dkwX2_goes_0 ++ dktX2_goes_1
theorem dksX2_goes_0 : cX2_goes.data.toList.drop 0 = dktX2_goes_0 := by decide +kernel
theorem dksX2_goes_1 : cX2_goes.data.toList.drop 23 = dktX2_goes_1 := dk_seg dksX2_goes_0 23 rfl rfl
theorem dksX2_goes_2 : cX2_goes.data.toList.drop 47 = dktX2_goes_2 := dk_seg dksX2_goes_1 24 rfl rfl
theorem dksX2_goes_3 : cX2_goes.data.toList.drop 69 = dktX2_goes_3 := dk_seg dksX2_goes_2 22 rfl rfl
theorem dksX2_goes_4 : cX2_goes.data.toList.drop 91 = dktX2_goes_4 := dk_seg dksX2_goes_3 22 rfl rfl
theorem dksX2_goes_5 : cX2_goes.data.toList.drop 114 = dktX2_goes_5 := dk_seg dksX2_goes_4 23 rfl rfl
theorem dX2_goes_0 : decode cX2_goes 0 = .ok (.aload_n 0, 1) := dk_42 (dk_at dksX2_goes_0 0 rfl rfl)
theorem dX2_goes_1 : decode cX2_goes 1 = .ok (.iconst 0, 1) := dk_3 (dk_at dksX2_goes_0 1 rfl rfl)
theorem dX2_goes_2 : decode cX2_goes 2 = .ok (.putfield 132, 3) := dk_181 0 132 (dk_at dksX2_goes_0 2 rfl rfl)
theorem dX2_goes_5 : decode cX2_goes 5 = .ok (.aload_n 0, 1) := dk_42 (dk_at dksX2_goes_0 5 rfl rfl)
theorem dX2_goes_6 : decode cX2_goes 6 = .ok (.iconst (-1), 1) := dk_2 (dk_at dksX2_goes_0 6 rfl rfl)
theorem dX2_goes_7 : decode cX2_goes 7 = .ok (.putfield 129, 3) := dk_181 0 129 (dk_at dksX2_goes_0 7 rfl rfl)
theorem dX2_goes_10 : decode cX2_goes 10 = .ok (.iconst 0, 1) := dk_3 (dk_at dksX2_goes_0 10 rfl rfl)
theorem dX2_goes_11 : decode cX2_goes 11 = .ok (.istore_n 2, 1) := dk_61 (dk_at dksX2_goes_0 11 rfl rfl)
theorem dX2_goes_12 : decode cX2_goes 12 = .ok (.iload_n 2, 1) := dk_28 (dk_at dksX2_goes_0 12 rfl rfl)
theorem dX2_goes_13 : decode cX2_goes 13 = .ok (.aload_n 0, 1) := dk_42 (dk_at dksX2_goes_0 13 rfl rfl)
theorem dX2_goes_14 : decode cX2_goes 14 = .ok (.getfield 7, 3) := dk_180 0 7 (dk_at dksX2_goes_0 14 rfl rfl)
theorem dX2_goes_17 : decode cX2_goes 17 = .ok (.iconst 0, 1) := dk_3 (dk_at dksX2_goes_0 17 rfl rfl)
theorem dX2_goes_18 : decode cX2_goes 18 = .ok (.iaload, 1) := dk_46 (dk_at dksX2_goes_0 18 rfl rfl)
theorem dX2_goes_19 : decode cX2_goes 19 = .ok (.if_icmp .ge 20, 3) := dk_162 0 20 (dk_at dksX2_goes_0 19 rfl rfl)
theorem dX2_goes_22 : decode cX2_goes 22 = .ok (.aload_n 0, 1) := dk_42 (dk_at dksX2_goes_0 22 rfl rfl)
theorem dX2_goes_23 : decode cX2_goes 23 = .ok (.getfield 35, 3) := dk_180 0 35 (dk_at dksX2_goes_1 0 rfl rfl)
theorem dX2_goes_26 : decode cX2_goes 26 = .ok (.iload_n 2, 1) := dk_28 (dk_at dksX2_goes_1 3 rfl rfl)
theorem dX2_goes_27 : decode cX2_goes 27 = .ok (.aload_n 0, 1) := dk_42 (dk_at dksX2_goes_1 4 rfl rfl)
theorem dX2_goes_28 : decode cX2_goes 28 = .ok (.iload_n 2, 1) := dk_28 (dk_at dksX2_goes_1 5 rfl rfl)
theorem dX2_goes_29 : decode cX2_goes 29 = .ok (.invokevirtual 146, 3) := dk_182 0 146 (dk_at dksX2_goes_1 6 rfl rfl)
theorem dX2_goes_32 : decode cX2_goes 32 = .ok (.iastore, 1) := dk_79 (dk_at dksX2_goes_1 9 rfl rfl)
theorem dX2_goes_33 : decode cX2_goes 33 = .ok (.iinc 2 1, 3) := dk_132 2 1 (dk_at dksX2_goes_1 10 rfl rfl)
theorem dX2_goes_36 : decode cX2_goes 36 = .ok (.goto (-24), 3) := dk_167 255 232 (dk_at dksX2_goes_1 13 rfl rfl)
theorem dX2_goes_39 : decode cX2_goes 39 = .ok (.aload_n 0, 1) := dk_42 (dk_at dksX2_goes_1 16 rfl rfl)
theorem dX2_goes_40 : decode cX2_goes 40 = .ok (.invokevirtual 149, 3) := dk_182 0 149 (dk_at dksX2_goes_1 17 rfl rfl)
theorem dX2_goes_43 : decode cX2_goes 43 = .ok (.iconst 0, 1) := dk_3 (dk_at dksX2_goes_1 20 rfl rfl)
theorem dX2_goes_44 : decode cX2_goes 44 = .ok (.istore_n 2, 1) := dk_61 (dk_at dksX2_goes_1 21 rfl rfl)
theorem dX2_goes_45 : decode cX2_goes 45 = .ok (.iload_n 2, 1) := dk_28 (dk_at dksX2_goes_1 22 rfl rfl)
theorem dX2_goes_46 : decode cX2_goes 46 = .ok (.aload_n 0, 1) := dk_42 (dk_at dksX2_goes_1 23 rfl rfl)
theorem dX2_goes_47 : decode cX2_goes 47 = .ok (.getfield 7, 3) := dk_180 0 7 (dk_at dksX2_goes_2 0 rfl rfl)
theorem dX2_goes_50 : decode cX2_goes 50 = .ok (.iconst 2, 1) := dk_5 (dk_at dksX2_goes_2 3 rfl rfl)
theorem dX2_goes_51 : decode cX2_goes 51 = .ok (.iaload, 1) := dk_46 (dk_at dksX2_goes_2 4 rfl rfl)
theorem dX2_goes_52 : decode cX2_goes 52 = .ok (.if_icmp .ge 68, 3) := dk_162 0 68 (dk_at dksX2_goes_2 5 rfl rfl)
theorem dX2_goes_55 : decode cX2_goes 55 = .ok (.aload_n 0, 1) := dk_42 (dk_at dksX2_goes_2 8 rfl rfl)
theorem dX2_goes_56 : decode cX2_goes 56 = .ok (.getfield 129, 3) := dk_180 0 129 (dk_at dksX2_goes_2 9 rfl rfl)
theorem dX2_goes_59 : decode cX2_goes 59 = .ok (.iconst (-1), 1) := dk_2 (dk_at dksX2_goes_2 12 rfl rfl)
theorem dX2_goes_60 : decode cX2_goes 60 = .ok (.if_icmp .ne 60, 3) := dk_160 0 60 (dk_at dksX2_goes_2 13 rfl rfl)
theorem dX2_goes_63 : decode cX2_goes 63 = .ok (.iload_n 1, 1) := dk_27 (dk_at dksX2_goes_2 16 rfl rfl)
theorem dX2_goes_64 : decode cX2_goes 64 = .ok (.iload_n 2, 1) := dk_28 (dk_at dksX2_goes_2 17 rfl rfl)
theorem dX2_goes_65 : decode cX2_goes 65 = .ok (.ishr, 1) := dk_122 (dk_at dksX2_goes_2 18 rfl rfl)
theorem dX2_goes_66 : decode cX2_goes 66 = .ok (.iconst 1, 1) := dk_4 (dk_at dksX2_goes_2 19 rfl rfl)
theorem dX2_goes_67 : decode cX2_goes 67 = .ok (.iand, 1) := dk_126 (dk_at dksX2_goes_2 20 rfl rfl)
theorem dX2_goes_68 : decode cX2_goes 68 = .ok (.iconst 1, 1) := dk_4 (dk_at dksX2_goes_2 21 rfl rfl)
theorem dX2_goes_69 : decode cX2_goes 69 = .ok (.if_icmp .ne 45, 3) := dk_160 0 45 (dk_at dksX2_goes_3 0 rfl rfl)
theorem dX2_goes_72 : decode cX2_goes 72 = .ok (.aload_n 0, 1) := dk_42 (dk_at dksX2_goes_3 3 rfl rfl)
theorem dX2_goes_73 : decode cX2_goes 73 = .ok (.bipush 100, 2) := dk_16 100 (dk_at dksX2_goes_3 4 rfl rfl)
theorem dX2_goes_75 : decode cX2_goes 75 = .ok (.iload_n 2, 1) := dk_28 (dk_at dksX2_goes_3 6 rfl rfl)
theorem dX2_goes_76 : decode cX2_goes 76 = .ok (.iadd, 1) := dk_96 (dk_at dksX2_goes_3 7 rfl rfl)
theorem dX2_goes_77 : decode cX2_goes 77 = .ok (.aload_n 0, 1) := dk_42 (dk_at dksX2_goes_3 8 rfl rfl)
theorem dX2_goes_78 : decode cX2_goes 78 = .ok (.getfield 7, 3) := dk_180 0 7 (dk_at dksX2_goes_3 9 rfl rfl)
theorem dX2_goes_81 : decode cX2_goes 81 = .ok (.sipush 225, 3) := dk_17 0 225 (dk_at dksX2_goes_3 12 rfl rfl)
theorem dX2_goes_84 : decode cX2_goes 84 = .ok (.iconst 2, 1) := dk_5 (dk_at dksX2_goes_3 15 rfl rfl)
theorem dX2_goes_85 : decode cX2_goes 85 = .ok (.iload_n 2, 1) := dk_28 (dk_at dksX2_goes_3 16 rfl rfl)
theorem dX2_goes_86 : decode cX2_goes 86 = .ok (.imul, 1) := dk_104 (dk_at dksX2_goes_3 17 rfl rfl)
theorem dX2_goes_87 : decode cX2_goes 87 = .ok (.iadd, 1) := dk_96 (dk_at dksX2_goes_3 18 rfl rfl)
theorem dX2_goes_88 : decode cX2_goes 88 = .ok (.iaload, 1) := dk_46 (dk_at dksX2_goes_3 19 rfl rfl)
theorem dX2_goes_89 : decode cX2_goes 89 = .ok (.iconst 1, 1) := dk_4 (dk_at dksX2_goes_3 20 rfl rfl)
theorem dX2_goes_90 : decode cX2_goes 90 = .ok (.aload_n 0, 1) := dk_42 (dk_at dksX2_goes_3 21 rfl rfl)
theorem dX2_goes_91 : decode cX2_goes 91 = .ok (.getfield 7, 3) := dk_180 0 7 (dk_at dksX2_goes_4 0 rfl rfl)
theorem dX2_goes_94 : decode cX2_goes 94 = .ok (.sipush 225, 3) := dk_17 0 225 (dk_at dksX2_goes_4 3 rfl rfl)
theorem dX2_goes_97 : decode cX2_goes 97 = .ok (.iconst 2, 1) := dk_5 (dk_at dksX2_goes_4 6 rfl rfl)
theorem dX2_goes_98 : decode cX2_goes 98 = .ok (.iload_n 2, 1) := dk_28 (dk_at dksX2_goes_4 7 rfl rfl)
theorem dX2_goes_99 : decode cX2_goes 99 = .ok (.imul, 1) := dk_104 (dk_at dksX2_goes_4 8 rfl rfl)
theorem dX2_goes_100 : decode cX2_goes 100 = .ok (.iadd, 1) := dk_96 (dk_at dksX2_goes_4 9 rfl rfl)
theorem dX2_goes_101 : decode cX2_goes 101 = .ok (.iconst 1, 1) := dk_4 (dk_at dksX2_goes_4 10 rfl rfl)
theorem dX2_goes_102 : decode cX2_goes 102 = .ok (.iadd, 1) := dk_96 (dk_at dksX2_goes_4 11 rfl rfl)
theorem dX2_goes_103 : decode cX2_goes 103 = .ok (.iaload, 1) := dk_46 (dk_at dksX2_goes_4 12 rfl rfl)
theorem dX2_goes_104 : decode cX2_goes 104 = .ok (.ishl, 1) := dk_120 (dk_at dksX2_goes_4 13 rfl rfl)
theorem dX2_goes_105 : decode cX2_goes 105 = .ok (.iconst (-1), 1) := dk_2 (dk_at dksX2_goes_4 14 rfl rfl)
theorem dX2_goes_106 : decode cX2_goes 106 = .ok (.ixor, 1) := dk_130 (dk_at dksX2_goes_4 15 rfl rfl)
theorem dX2_goes_107 : decode cX2_goes 107 = .ok (.invokevirtual 135, 3) := dk_182 0 135 (dk_at dksX2_goes_4 16 rfl rfl)
theorem dX2_goes_110 : decode cX2_goes 110 = .ok (.aload_n 0, 1) := dk_42 (dk_at dksX2_goes_4 19 rfl rfl)
theorem dX2_goes_111 : decode cX2_goes 111 = .ok (.invokevirtual 149, 3) := dk_182 0 149 (dk_at dksX2_goes_4 20 rfl rfl)
theorem dX2_goes_114 : decode cX2_goes 114 = .ok (.iinc 2 1, 3) := dk_132 2 1 (dk_at dksX2_goes_5 0 rfl rfl)
theorem dX2_goes_117 : decode cX2_goes 117 = .ok (.goto (-72), 3) := dk_167 255 184 (dk_at dksX2_goes_5 3 rfl rfl)
theorem dX2_goes_120 : decode cX2_goes 120 = .ok (.return_, 1) := dk_177 (dk_at dksX2_goes_5 6 rfl rfl)
abbrev cX2_allStates : ByteArray := prog_24_method_34_code
def yX2_allStates : MethodName := ⟨RX2, "allStates", "(I)I"⟩
def dkwX2_allStates_0 : List UInt8 := [4, 42, 27, 3, 182, 0, 67, 120, 4, 100, 16, 32, 128, 172]
abbrev dktX2_allStates_0 : List UInt8 := dkwX2_allStates_0 ++ []
theorem dksX2_allStates_0 : cX2_allStates.data.toList.drop 0 = dktX2_allStates_0 := by decide +kernel
theorem dX2_allStates_0 : decode cX2_allStates 0 = .ok (.iconst 1, 1) := dk_4 (dk_at dksX2_allStates_0 0 rfl rfl)
theorem dX2_allStates_1 : decode cX2_allStates 1 = .ok (.aload_n 0, 1) := dk_42 (dk_at dksX2_allStates_0 1 rfl rfl)
theorem dX2_allStates_2 : decode cX2_allStates 2 = .ok (.iload_n 1, 1) := dk_27 (dk_at dksX2_allStates_0 2 rfl rfl)
theorem dX2_allStates_3 : decode cX2_allStates 3 = .ok (.iconst 0, 1) := dk_3 (dk_at dksX2_allStates_0 3 rfl rfl)
theorem dX2_allStates_4 : decode cX2_allStates 4 = .ok (.invokevirtual 67, 3) := dk_182 0 67 (dk_at dksX2_allStates_0 4 rfl rfl)
theorem dX2_allStates_7 : decode cX2_allStates 7 = .ok (.ishl, 1) := dk_120 (dk_at dksX2_allStates_0 7 rfl rfl)
theorem dX2_allStates_8 : decode cX2_allStates 8 = .ok (.iconst 1, 1) := dk_4 (dk_at dksX2_allStates_0 8 rfl rfl)
theorem dX2_allStates_9 : decode cX2_allStates 9 = .ok (.isub, 1) := dk_100 (dk_at dksX2_allStates_0 9 rfl rfl)
theorem dX2_allStates_10 : decode cX2_allStates 10 = .ok (.bipush 32, 2) := dk_16 32 (dk_at dksX2_allStates_0 10 rfl rfl)
theorem dX2_allStates_12 : decode cX2_allStates 12 = .ok (.ior, 1) := dk_128 (dk_at dksX2_allStates_0 12 rfl rfl)
theorem dX2_allStates_13 : decode cX2_allStates 13 = .ok (.ireturn, 1) := dk_172 (dk_at dksX2_allStates_0 13 rfl rfl)
abbrev cX2_follows : ByteArray := prog_24_method_38_code
def yX2_follows : MethodName := ⟨RX2, "follows", "()V"⟩
def dkwX2_follows_2 : List UInt8 := [60, 28, 4, 96, 42, 180, 0, 7, 4, 46, 112, 61, 167, 255, 201, 177]
abbrev dktX2_follows_2 : List UInt8 := dkwX2_follows_2 ++ []
def dkwX2_follows_1 : List UInt8 := [180, 0, 132, 62, 42, 28, 182, 0, 143, 42, 180, 0, 132, 29, 160, 0, 9, 27, 4, 96, 167, 0, 4, 3]
abbrev dktX2_follows_1 : List UInt8 := dkwX2_follows_1 ++ dktX2_follows_2
def dkwX2_follows_0 : List UInt8 := [3, 60, 3, 61, 42, 180, 0, 129, 2, 160, 0, 53, 27, 42, 180, 0, 7, 4, 46, 162, 0, 43, 42]
abbrev dktX2_follows_0 : List UInt8 := dkwX2_follows_0 ++ dktX2_follows_1
theorem dksX2_follows_0 : cX2_follows.data.toList.drop 0 = dktX2_follows_0 := by decide +kernel
theorem dksX2_follows_1 : cX2_follows.data.toList.drop 23 = dktX2_follows_1 := dk_seg dksX2_follows_0 23 rfl rfl
theorem dksX2_follows_2 : cX2_follows.data.toList.drop 47 = dktX2_follows_2 := dk_seg dksX2_follows_1 24 rfl rfl
theorem dX2_follows_0 : decode cX2_follows 0 = .ok (.iconst 0, 1) := dk_3 (dk_at dksX2_follows_0 0 rfl rfl)
theorem dX2_follows_1 : decode cX2_follows 1 = .ok (.istore_n 1, 1) := dk_60 (dk_at dksX2_follows_0 1 rfl rfl)
theorem dX2_follows_2 : decode cX2_follows 2 = .ok (.iconst 0, 1) := dk_3 (dk_at dksX2_follows_0 2 rfl rfl)
theorem dX2_follows_3 : decode cX2_follows 3 = .ok (.istore_n 2, 1) := dk_61 (dk_at dksX2_follows_0 3 rfl rfl)
theorem dX2_follows_4 : decode cX2_follows 4 = .ok (.aload_n 0, 1) := dk_42 (dk_at dksX2_follows_0 4 rfl rfl)
theorem dX2_follows_5 : decode cX2_follows 5 = .ok (.getfield 129, 3) := dk_180 0 129 (dk_at dksX2_follows_0 5 rfl rfl)
theorem dX2_follows_8 : decode cX2_follows 8 = .ok (.iconst (-1), 1) := dk_2 (dk_at dksX2_follows_0 8 rfl rfl)
theorem dX2_follows_9 : decode cX2_follows 9 = .ok (.if_icmp .ne 53, 3) := dk_160 0 53 (dk_at dksX2_follows_0 9 rfl rfl)
theorem dX2_follows_12 : decode cX2_follows 12 = .ok (.iload_n 1, 1) := dk_27 (dk_at dksX2_follows_0 12 rfl rfl)
theorem dX2_follows_13 : decode cX2_follows 13 = .ok (.aload_n 0, 1) := dk_42 (dk_at dksX2_follows_0 13 rfl rfl)
theorem dX2_follows_14 : decode cX2_follows 14 = .ok (.getfield 7, 3) := dk_180 0 7 (dk_at dksX2_follows_0 14 rfl rfl)
theorem dX2_follows_17 : decode cX2_follows 17 = .ok (.iconst 1, 1) := dk_4 (dk_at dksX2_follows_0 17 rfl rfl)
theorem dX2_follows_18 : decode cX2_follows 18 = .ok (.iaload, 1) := dk_46 (dk_at dksX2_follows_0 18 rfl rfl)
theorem dX2_follows_19 : decode cX2_follows 19 = .ok (.if_icmp .ge 43, 3) := dk_162 0 43 (dk_at dksX2_follows_0 19 rfl rfl)
theorem dX2_follows_22 : decode cX2_follows 22 = .ok (.aload_n 0, 1) := dk_42 (dk_at dksX2_follows_0 22 rfl rfl)
theorem dX2_follows_23 : decode cX2_follows 23 = .ok (.getfield 132, 3) := dk_180 0 132 (dk_at dksX2_follows_1 0 rfl rfl)
theorem dX2_follows_26 : decode cX2_follows 26 = .ok (.istore_n 3, 1) := dk_62 (dk_at dksX2_follows_1 3 rfl rfl)
theorem dX2_follows_27 : decode cX2_follows 27 = .ok (.aload_n 0, 1) := dk_42 (dk_at dksX2_follows_1 4 rfl rfl)
theorem dX2_follows_28 : decode cX2_follows 28 = .ok (.iload_n 2, 1) := dk_28 (dk_at dksX2_follows_1 5 rfl rfl)
theorem dX2_follows_29 : decode cX2_follows 29 = .ok (.invokevirtual 143, 3) := dk_182 0 143 (dk_at dksX2_follows_1 6 rfl rfl)
theorem dX2_follows_32 : decode cX2_follows 32 = .ok (.aload_n 0, 1) := dk_42 (dk_at dksX2_follows_1 9 rfl rfl)
theorem dX2_follows_33 : decode cX2_follows 33 = .ok (.getfield 132, 3) := dk_180 0 132 (dk_at dksX2_follows_1 10 rfl rfl)
theorem dX2_follows_36 : decode cX2_follows 36 = .ok (.iload_n 3, 1) := dk_29 (dk_at dksX2_follows_1 13 rfl rfl)
theorem dX2_follows_37 : decode cX2_follows 37 = .ok (.if_icmp .ne 9, 3) := dk_160 0 9 (dk_at dksX2_follows_1 14 rfl rfl)
theorem dX2_follows_40 : decode cX2_follows 40 = .ok (.iload_n 1, 1) := dk_27 (dk_at dksX2_follows_1 17 rfl rfl)
theorem dX2_follows_41 : decode cX2_follows 41 = .ok (.iconst 1, 1) := dk_4 (dk_at dksX2_follows_1 18 rfl rfl)
theorem dX2_follows_42 : decode cX2_follows 42 = .ok (.iadd, 1) := dk_96 (dk_at dksX2_follows_1 19 rfl rfl)
theorem dX2_follows_43 : decode cX2_follows 43 = .ok (.goto 4, 3) := dk_167 0 4 (dk_at dksX2_follows_1 20 rfl rfl)
theorem dX2_follows_46 : decode cX2_follows 46 = .ok (.iconst 0, 1) := dk_3 (dk_at dksX2_follows_1 23 rfl rfl)
theorem dX2_follows_47 : decode cX2_follows 47 = .ok (.istore_n 1, 1) := dk_60 (dk_at dksX2_follows_2 0 rfl rfl)
theorem dX2_follows_48 : decode cX2_follows 48 = .ok (.iload_n 2, 1) := dk_28 (dk_at dksX2_follows_2 1 rfl rfl)
theorem dX2_follows_49 : decode cX2_follows 49 = .ok (.iconst 1, 1) := dk_4 (dk_at dksX2_follows_2 2 rfl rfl)
theorem dX2_follows_50 : decode cX2_follows 50 = .ok (.iadd, 1) := dk_96 (dk_at dksX2_follows_2 3 rfl rfl)
theorem dX2_follows_51 : decode cX2_follows 51 = .ok (.aload_n 0, 1) := dk_42 (dk_at dksX2_follows_2 4 rfl rfl)
theorem dX2_follows_52 : decode cX2_follows 52 = .ok (.getfield 7, 3) := dk_180 0 7 (dk_at dksX2_follows_2 5 rfl rfl)
theorem dX2_follows_55 : decode cX2_follows 55 = .ok (.iconst 1, 1) := dk_4 (dk_at dksX2_follows_2 8 rfl rfl)
theorem dX2_follows_56 : decode cX2_follows 56 = .ok (.iaload, 1) := dk_46 (dk_at dksX2_follows_2 9 rfl rfl)
theorem dX2_follows_57 : decode cX2_follows 57 = .ok (.irem, 1) := dk_112 (dk_at dksX2_follows_2 10 rfl rfl)
theorem dX2_follows_58 : decode cX2_follows 58 = .ok (.istore_n 2, 1) := dk_61 (dk_at dksX2_follows_2 11 rfl rfl)
theorem dX2_follows_59 : decode cX2_follows 59 = .ok (.goto (-55), 3) := dk_167 255 201 (dk_at dksX2_follows_2 12 rfl rfl)
theorem dX2_follows_62 : decode cX2_follows 62 = .ok (.return_, 1) := dk_177 (dk_at dksX2_follows_2 15 rfl rfl)
abbrev cX2_applies : ByteArray := prog_24_method_36_code
def yX2_applies : MethodName := ⟨RX2, "applies", "(I)V"⟩
def dkwX2_applies_6 : List UInt8 := [182, 0, 135, 21, 4, 6, 160, 0, 8, 42, 27, 182, 0, 139, 177]
abbrev dktX2_applies_6 : List UInt8 := dkwX2_applies_6 ++ []
def dkwX2_applies_5 : List UInt8 := [182, 0, 135, 42, 180, 0, 35, 29, 46, 21, 6, 2, 130, 126, 154, 0, 11, 42, 27, 28, 21, 5]
abbrev dktX2_applies_5 : List UInt8 := dkwX2_applies_5 ++ dktX2_applies_6
def dkwX2_applies_4 : List UInt8 := [182, 0, 87, 182, 0, 103, 54, 6, 42, 180, 0, 35, 28, 46, 21, 5, 160, 0, 11, 42, 27, 29, 21, 6]
abbrev dktX2_applies_4 : List UInt8 := dkwX2_applies_4 ++ dktX2_applies_5
def dkwX2_applies_3 : List UInt8 := [160, 0, 19, 42, 29, 42, 27, 7, 182, 0, 87, 182, 0, 103, 2, 130, 167, 0, 14, 42, 29, 42, 27, 7]
abbrev dktX2_applies_3 : List UInt8 := dkwX2_applies_3 ++ dktX2_applies_4
def dkwX2_applies_2 : List UInt8 := [4, 159, 0, 9, 21, 4, 5, 160, 0, 89, 4, 42, 27, 5, 182, 0, 87, 120, 54, 5, 21, 4, 4]
abbrev dktX2_applies_2 : List UInt8 := dkwX2_applies_2 ++ dktX2_applies_3
def dkwX2_applies_1 : List UInt8 := [154, 0, 22, 42, 27, 28, 42, 28, 42, 27, 7, 182, 0, 87, 182, 0, 103, 2, 130, 182, 0, 135, 21, 4]
abbrev dktX2_applies_1 : List UInt8 := dkwX2_applies_1 ++ dktX2_applies_2
def dkwX2_applies_0 : List UInt8 := [42, 27, 4, 182, 0, 87, 61, 42, 27, 6, 182, 0, 87, 62, 42, 27, 3, 182, 0, 87, 54, 4, 21, 4]
abbrev dktX2_applies_0 : List UInt8 := dkwX2_applies_0 ++ dktX2_applies_1
theorem dksX2_applies_0 : cX2_applies.data.toList.drop 0 = dktX2_applies_0 := by decide +kernel
theorem dksX2_applies_1 : cX2_applies.data.toList.drop 24 = dktX2_applies_1 := dk_seg dksX2_applies_0 24 rfl rfl
theorem dksX2_applies_2 : cX2_applies.data.toList.drop 48 = dktX2_applies_2 := dk_seg dksX2_applies_1 24 rfl rfl
theorem dksX2_applies_3 : cX2_applies.data.toList.drop 71 = dktX2_applies_3 := dk_seg dksX2_applies_2 23 rfl rfl
theorem dksX2_applies_4 : cX2_applies.data.toList.drop 95 = dktX2_applies_4 := dk_seg dksX2_applies_3 24 rfl rfl
theorem dksX2_applies_5 : cX2_applies.data.toList.drop 119 = dktX2_applies_5 := dk_seg dksX2_applies_4 24 rfl rfl
theorem dksX2_applies_6 : cX2_applies.data.toList.drop 141 = dktX2_applies_6 := dk_seg dksX2_applies_5 22 rfl rfl
theorem dX2_applies_0 : decode cX2_applies 0 = .ok (.aload_n 0, 1) := dk_42 (dk_at dksX2_applies_0 0 rfl rfl)
theorem dX2_applies_1 : decode cX2_applies 1 = .ok (.iload_n 1, 1) := dk_27 (dk_at dksX2_applies_0 1 rfl rfl)
theorem dX2_applies_2 : decode cX2_applies 2 = .ok (.iconst 1, 1) := dk_4 (dk_at dksX2_applies_0 2 rfl rfl)
theorem dX2_applies_3 : decode cX2_applies 3 = .ok (.invokevirtual 87, 3) := dk_182 0 87 (dk_at dksX2_applies_0 3 rfl rfl)
theorem dX2_applies_6 : decode cX2_applies 6 = .ok (.istore_n 2, 1) := dk_61 (dk_at dksX2_applies_0 6 rfl rfl)
theorem dX2_applies_7 : decode cX2_applies 7 = .ok (.aload_n 0, 1) := dk_42 (dk_at dksX2_applies_0 7 rfl rfl)
theorem dX2_applies_8 : decode cX2_applies 8 = .ok (.iload_n 1, 1) := dk_27 (dk_at dksX2_applies_0 8 rfl rfl)
theorem dX2_applies_9 : decode cX2_applies 9 = .ok (.iconst 3, 1) := dk_6 (dk_at dksX2_applies_0 9 rfl rfl)
theorem dX2_applies_10 : decode cX2_applies 10 = .ok (.invokevirtual 87, 3) := dk_182 0 87 (dk_at dksX2_applies_0 10 rfl rfl)
theorem dX2_applies_13 : decode cX2_applies 13 = .ok (.istore_n 3, 1) := dk_62 (dk_at dksX2_applies_0 13 rfl rfl)
theorem dX2_applies_14 : decode cX2_applies 14 = .ok (.aload_n 0, 1) := dk_42 (dk_at dksX2_applies_0 14 rfl rfl)
theorem dX2_applies_15 : decode cX2_applies 15 = .ok (.iload_n 1, 1) := dk_27 (dk_at dksX2_applies_0 15 rfl rfl)
theorem dX2_applies_16 : decode cX2_applies 16 = .ok (.iconst 0, 1) := dk_3 (dk_at dksX2_applies_0 16 rfl rfl)
theorem dX2_applies_17 : decode cX2_applies 17 = .ok (.invokevirtual 87, 3) := dk_182 0 87 (dk_at dksX2_applies_0 17 rfl rfl)
theorem dX2_applies_20 : decode cX2_applies 20 = .ok (.istore 4, 2) := dk_54 4 (dk_at dksX2_applies_0 20 rfl rfl)
theorem dX2_applies_22 : decode cX2_applies 22 = .ok (.iload 4, 2) := dk_21 4 (dk_at dksX2_applies_0 22 rfl rfl)
theorem dX2_applies_24 : decode cX2_applies 24 = .ok (.ifCond .ne 22, 3) := dk_154 0 22 (dk_at dksX2_applies_1 0 rfl rfl)
theorem dX2_applies_27 : decode cX2_applies 27 = .ok (.aload_n 0, 1) := dk_42 (dk_at dksX2_applies_1 3 rfl rfl)
theorem dX2_applies_28 : decode cX2_applies 28 = .ok (.iload_n 1, 1) := dk_27 (dk_at dksX2_applies_1 4 rfl rfl)
theorem dX2_applies_29 : decode cX2_applies 29 = .ok (.iload_n 2, 1) := dk_28 (dk_at dksX2_applies_1 5 rfl rfl)
theorem dX2_applies_30 : decode cX2_applies 30 = .ok (.aload_n 0, 1) := dk_42 (dk_at dksX2_applies_1 6 rfl rfl)
theorem dX2_applies_31 : decode cX2_applies 31 = .ok (.iload_n 2, 1) := dk_28 (dk_at dksX2_applies_1 7 rfl rfl)
theorem dX2_applies_32 : decode cX2_applies 32 = .ok (.aload_n 0, 1) := dk_42 (dk_at dksX2_applies_1 8 rfl rfl)
theorem dX2_applies_33 : decode cX2_applies 33 = .ok (.iload_n 1, 1) := dk_27 (dk_at dksX2_applies_1 9 rfl rfl)
theorem dX2_applies_34 : decode cX2_applies 34 = .ok (.iconst 4, 1) := dk_7 (dk_at dksX2_applies_1 10 rfl rfl)
theorem dX2_applies_35 : decode cX2_applies 35 = .ok (.invokevirtual 87, 3) := dk_182 0 87 (dk_at dksX2_applies_1 11 rfl rfl)
theorem dX2_applies_38 : decode cX2_applies 38 = .ok (.invokevirtual 103, 3) := dk_182 0 103 (dk_at dksX2_applies_1 14 rfl rfl)
theorem dX2_applies_41 : decode cX2_applies 41 = .ok (.iconst (-1), 1) := dk_2 (dk_at dksX2_applies_1 17 rfl rfl)
theorem dX2_applies_42 : decode cX2_applies 42 = .ok (.ixor, 1) := dk_130 (dk_at dksX2_applies_1 18 rfl rfl)
theorem dX2_applies_43 : decode cX2_applies 43 = .ok (.invokevirtual 135, 3) := dk_182 0 135 (dk_at dksX2_applies_1 19 rfl rfl)
theorem dX2_applies_46 : decode cX2_applies 46 = .ok (.iload 4, 2) := dk_21 4 (dk_at dksX2_applies_1 22 rfl rfl)
theorem dX2_applies_48 : decode cX2_applies 48 = .ok (.iconst 1, 1) := dk_4 (dk_at dksX2_applies_2 0 rfl rfl)
theorem dX2_applies_49 : decode cX2_applies 49 = .ok (.if_icmp .eq 9, 3) := dk_159 0 9 (dk_at dksX2_applies_2 1 rfl rfl)
theorem dX2_applies_52 : decode cX2_applies 52 = .ok (.iload 4, 2) := dk_21 4 (dk_at dksX2_applies_2 4 rfl rfl)
theorem dX2_applies_54 : decode cX2_applies 54 = .ok (.iconst 2, 1) := dk_5 (dk_at dksX2_applies_2 6 rfl rfl)
theorem dX2_applies_55 : decode cX2_applies 55 = .ok (.if_icmp .ne 89, 3) := dk_160 0 89 (dk_at dksX2_applies_2 7 rfl rfl)
theorem dX2_applies_58 : decode cX2_applies 58 = .ok (.iconst 1, 1) := dk_4 (dk_at dksX2_applies_2 10 rfl rfl)
theorem dX2_applies_59 : decode cX2_applies 59 = .ok (.aload_n 0, 1) := dk_42 (dk_at dksX2_applies_2 11 rfl rfl)
theorem dX2_applies_60 : decode cX2_applies 60 = .ok (.iload_n 1, 1) := dk_27 (dk_at dksX2_applies_2 12 rfl rfl)
theorem dX2_applies_61 : decode cX2_applies 61 = .ok (.iconst 2, 1) := dk_5 (dk_at dksX2_applies_2 13 rfl rfl)
theorem dX2_applies_62 : decode cX2_applies 62 = .ok (.invokevirtual 87, 3) := dk_182 0 87 (dk_at dksX2_applies_2 14 rfl rfl)
theorem dX2_applies_65 : decode cX2_applies 65 = .ok (.ishl, 1) := dk_120 (dk_at dksX2_applies_2 17 rfl rfl)
theorem dX2_applies_66 : decode cX2_applies 66 = .ok (.istore 5, 2) := dk_54 5 (dk_at dksX2_applies_2 18 rfl rfl)
theorem dX2_applies_68 : decode cX2_applies 68 = .ok (.iload 4, 2) := dk_21 4 (dk_at dksX2_applies_2 20 rfl rfl)
theorem dX2_applies_70 : decode cX2_applies 70 = .ok (.iconst 1, 1) := dk_4 (dk_at dksX2_applies_2 22 rfl rfl)
theorem dX2_applies_71 : decode cX2_applies 71 = .ok (.if_icmp .ne 19, 3) := dk_160 0 19 (dk_at dksX2_applies_3 0 rfl rfl)
theorem dX2_applies_74 : decode cX2_applies 74 = .ok (.aload_n 0, 1) := dk_42 (dk_at dksX2_applies_3 3 rfl rfl)
theorem dX2_applies_75 : decode cX2_applies 75 = .ok (.iload_n 3, 1) := dk_29 (dk_at dksX2_applies_3 4 rfl rfl)
theorem dX2_applies_76 : decode cX2_applies 76 = .ok (.aload_n 0, 1) := dk_42 (dk_at dksX2_applies_3 5 rfl rfl)
theorem dX2_applies_77 : decode cX2_applies 77 = .ok (.iload_n 1, 1) := dk_27 (dk_at dksX2_applies_3 6 rfl rfl)
theorem dX2_applies_78 : decode cX2_applies 78 = .ok (.iconst 4, 1) := dk_7 (dk_at dksX2_applies_3 7 rfl rfl)
theorem dX2_applies_79 : decode cX2_applies 79 = .ok (.invokevirtual 87, 3) := dk_182 0 87 (dk_at dksX2_applies_3 8 rfl rfl)
theorem dX2_applies_82 : decode cX2_applies 82 = .ok (.invokevirtual 103, 3) := dk_182 0 103 (dk_at dksX2_applies_3 11 rfl rfl)
theorem dX2_applies_85 : decode cX2_applies 85 = .ok (.iconst (-1), 1) := dk_2 (dk_at dksX2_applies_3 14 rfl rfl)
theorem dX2_applies_86 : decode cX2_applies 86 = .ok (.ixor, 1) := dk_130 (dk_at dksX2_applies_3 15 rfl rfl)
theorem dX2_applies_87 : decode cX2_applies 87 = .ok (.goto 14, 3) := dk_167 0 14 (dk_at dksX2_applies_3 16 rfl rfl)
theorem dX2_applies_90 : decode cX2_applies 90 = .ok (.aload_n 0, 1) := dk_42 (dk_at dksX2_applies_3 19 rfl rfl)
theorem dX2_applies_91 : decode cX2_applies 91 = .ok (.iload_n 3, 1) := dk_29 (dk_at dksX2_applies_3 20 rfl rfl)
theorem dX2_applies_92 : decode cX2_applies 92 = .ok (.aload_n 0, 1) := dk_42 (dk_at dksX2_applies_3 21 rfl rfl)
theorem dX2_applies_93 : decode cX2_applies 93 = .ok (.iload_n 1, 1) := dk_27 (dk_at dksX2_applies_3 22 rfl rfl)
theorem dX2_applies_94 : decode cX2_applies 94 = .ok (.iconst 4, 1) := dk_7 (dk_at dksX2_applies_3 23 rfl rfl)
theorem dX2_applies_95 : decode cX2_applies 95 = .ok (.invokevirtual 87, 3) := dk_182 0 87 (dk_at dksX2_applies_4 0 rfl rfl)
theorem dX2_applies_98 : decode cX2_applies 98 = .ok (.invokevirtual 103, 3) := dk_182 0 103 (dk_at dksX2_applies_4 3 rfl rfl)
theorem dX2_applies_101 : decode cX2_applies 101 = .ok (.istore 6, 2) := dk_54 6 (dk_at dksX2_applies_4 6 rfl rfl)
theorem dX2_applies_103 : decode cX2_applies 103 = .ok (.aload_n 0, 1) := dk_42 (dk_at dksX2_applies_4 8 rfl rfl)
theorem dX2_applies_104 : decode cX2_applies 104 = .ok (.getfield 35, 3) := dk_180 0 35 (dk_at dksX2_applies_4 9 rfl rfl)
theorem dX2_applies_107 : decode cX2_applies 107 = .ok (.iload_n 2, 1) := dk_28 (dk_at dksX2_applies_4 12 rfl rfl)
theorem dX2_applies_108 : decode cX2_applies 108 = .ok (.iaload, 1) := dk_46 (dk_at dksX2_applies_4 13 rfl rfl)
theorem dX2_applies_109 : decode cX2_applies 109 = .ok (.iload 5, 2) := dk_21 5 (dk_at dksX2_applies_4 14 rfl rfl)
theorem dX2_applies_111 : decode cX2_applies 111 = .ok (.if_icmp .ne 11, 3) := dk_160 0 11 (dk_at dksX2_applies_4 16 rfl rfl)
theorem dX2_applies_114 : decode cX2_applies 114 = .ok (.aload_n 0, 1) := dk_42 (dk_at dksX2_applies_4 19 rfl rfl)
theorem dX2_applies_115 : decode cX2_applies 115 = .ok (.iload_n 1, 1) := dk_27 (dk_at dksX2_applies_4 20 rfl rfl)
theorem dX2_applies_116 : decode cX2_applies 116 = .ok (.iload_n 3, 1) := dk_29 (dk_at dksX2_applies_4 21 rfl rfl)
theorem dX2_applies_117 : decode cX2_applies 117 = .ok (.iload 6, 2) := dk_21 6 (dk_at dksX2_applies_4 22 rfl rfl)
theorem dX2_applies_119 : decode cX2_applies 119 = .ok (.invokevirtual 135, 3) := dk_182 0 135 (dk_at dksX2_applies_5 0 rfl rfl)
theorem dX2_applies_122 : decode cX2_applies 122 = .ok (.aload_n 0, 1) := dk_42 (dk_at dksX2_applies_5 3 rfl rfl)
theorem dX2_applies_123 : decode cX2_applies 123 = .ok (.getfield 35, 3) := dk_180 0 35 (dk_at dksX2_applies_5 4 rfl rfl)
theorem dX2_applies_126 : decode cX2_applies 126 = .ok (.iload_n 3, 1) := dk_29 (dk_at dksX2_applies_5 7 rfl rfl)
theorem dX2_applies_127 : decode cX2_applies 127 = .ok (.iaload, 1) := dk_46 (dk_at dksX2_applies_5 8 rfl rfl)
theorem dX2_applies_128 : decode cX2_applies 128 = .ok (.iload 6, 2) := dk_21 6 (dk_at dksX2_applies_5 9 rfl rfl)
theorem dX2_applies_130 : decode cX2_applies 130 = .ok (.iconst (-1), 1) := dk_2 (dk_at dksX2_applies_5 11 rfl rfl)
theorem dX2_applies_131 : decode cX2_applies 131 = .ok (.ixor, 1) := dk_130 (dk_at dksX2_applies_5 12 rfl rfl)
theorem dX2_applies_132 : decode cX2_applies 132 = .ok (.iand, 1) := dk_126 (dk_at dksX2_applies_5 13 rfl rfl)
theorem dX2_applies_133 : decode cX2_applies 133 = .ok (.ifCond .ne 11, 3) := dk_154 0 11 (dk_at dksX2_applies_5 14 rfl rfl)
theorem dX2_applies_136 : decode cX2_applies 136 = .ok (.aload_n 0, 1) := dk_42 (dk_at dksX2_applies_5 17 rfl rfl)
theorem dX2_applies_137 : decode cX2_applies 137 = .ok (.iload_n 1, 1) := dk_27 (dk_at dksX2_applies_5 18 rfl rfl)
theorem dX2_applies_138 : decode cX2_applies 138 = .ok (.iload_n 2, 1) := dk_28 (dk_at dksX2_applies_5 19 rfl rfl)
theorem dX2_applies_139 : decode cX2_applies 139 = .ok (.iload 5, 2) := dk_21 5 (dk_at dksX2_applies_5 20 rfl rfl)
theorem dX2_applies_141 : decode cX2_applies 141 = .ok (.invokevirtual 135, 3) := dk_182 0 135 (dk_at dksX2_applies_6 0 rfl rfl)
theorem dX2_applies_144 : decode cX2_applies 144 = .ok (.iload 4, 2) := dk_21 4 (dk_at dksX2_applies_6 3 rfl rfl)
theorem dX2_applies_146 : decode cX2_applies 146 = .ok (.iconst 3, 1) := dk_6 (dk_at dksX2_applies_6 5 rfl rfl)
theorem dX2_applies_147 : decode cX2_applies 147 = .ok (.if_icmp .ne 8, 3) := dk_160 0 8 (dk_at dksX2_applies_6 6 rfl rfl)
theorem dX2_applies_150 : decode cX2_applies 150 = .ok (.aload_n 0, 1) := dk_42 (dk_at dksX2_applies_6 9 rfl rfl)
theorem dX2_applies_151 : decode cX2_applies 151 = .ok (.iload_n 1, 1) := dk_27 (dk_at dksX2_applies_6 10 rfl rfl)
theorem dX2_applies_152 : decode cX2_applies 152 = .ok (.invokevirtual 139, 3) := dk_182 0 139 (dk_at dksX2_applies_6 11 rfl rfl)
theorem dX2_applies_155 : decode cX2_applies 155 = .ok (.return_, 1) := dk_177 (dk_at dksX2_applies_6 14 rfl rfl)
abbrev cX2_leaves : ByteArray := prog_24_method_35_code
def yX2_leaves : MethodName := ⟨RX2, "leaves", "(III)V"⟩
def dkwX2_leaves_3 : List UInt8 := [21, 4, 2, 130, 126, 79, 42, 180, 0, 35, 28, 46, 154, 0, 8, 42, 28, 181, 0, 129, 177]
abbrev dktX2_leaves_3 : List UInt8 := dkwX2_leaves_3 ++ []
def dkwX2_leaves_2 : List UInt8 := [42, 180, 0, 132, 21, 4, 79, 42, 89, 180, 0, 132, 4, 96, 181, 0, 132, 42, 180, 0, 35, 28, 92, 46]
abbrev dktX2_leaves_2 : List UInt8 := dkwX2_leaves_2 ++ dktX2_leaves_3
def dkwX2_leaves_1 : List UInt8 := [42, 180, 0, 38, 42, 180, 0, 132, 27, 79, 42, 180, 0, 41, 42, 180, 0, 132, 28, 79, 42, 180, 0, 44]
abbrev dktX2_leaves_1 : List UInt8 := dkwX2_leaves_1 ++ dktX2_leaves_2
def dkwX2_leaves_0 : List UInt8 := [42, 180, 0, 35, 28, 46, 29, 126, 54, 4, 21, 4, 153, 0, 11, 42, 180, 0, 129, 2, 159, 0, 4, 177]
abbrev dktX2_leaves_0 : List UInt8 := dkwX2_leaves_0 ++ dktX2_leaves_1
theorem dksX2_leaves_0 : cX2_leaves.data.toList.drop 0 = dktX2_leaves_0 := by decide +kernel
theorem dksX2_leaves_1 : cX2_leaves.data.toList.drop 24 = dktX2_leaves_1 := dk_seg dksX2_leaves_0 24 rfl rfl
theorem dksX2_leaves_2 : cX2_leaves.data.toList.drop 48 = dktX2_leaves_2 := dk_seg dksX2_leaves_1 24 rfl rfl
theorem dksX2_leaves_3 : cX2_leaves.data.toList.drop 72 = dktX2_leaves_3 := dk_seg dksX2_leaves_2 24 rfl rfl
theorem dX2_leaves_0 : decode cX2_leaves 0 = .ok (.aload_n 0, 1) := dk_42 (dk_at dksX2_leaves_0 0 rfl rfl)
theorem dX2_leaves_1 : decode cX2_leaves 1 = .ok (.getfield 35, 3) := dk_180 0 35 (dk_at dksX2_leaves_0 1 rfl rfl)
theorem dX2_leaves_4 : decode cX2_leaves 4 = .ok (.iload_n 2, 1) := dk_28 (dk_at dksX2_leaves_0 4 rfl rfl)
theorem dX2_leaves_5 : decode cX2_leaves 5 = .ok (.iaload, 1) := dk_46 (dk_at dksX2_leaves_0 5 rfl rfl)
theorem dX2_leaves_6 : decode cX2_leaves 6 = .ok (.iload_n 3, 1) := dk_29 (dk_at dksX2_leaves_0 6 rfl rfl)
theorem dX2_leaves_7 : decode cX2_leaves 7 = .ok (.iand, 1) := dk_126 (dk_at dksX2_leaves_0 7 rfl rfl)
theorem dX2_leaves_8 : decode cX2_leaves 8 = .ok (.istore 4, 2) := dk_54 4 (dk_at dksX2_leaves_0 8 rfl rfl)
theorem dX2_leaves_10 : decode cX2_leaves 10 = .ok (.iload 4, 2) := dk_21 4 (dk_at dksX2_leaves_0 10 rfl rfl)
theorem dX2_leaves_12 : decode cX2_leaves 12 = .ok (.ifCond .eq 11, 3) := dk_153 0 11 (dk_at dksX2_leaves_0 12 rfl rfl)
theorem dX2_leaves_15 : decode cX2_leaves 15 = .ok (.aload_n 0, 1) := dk_42 (dk_at dksX2_leaves_0 15 rfl rfl)
theorem dX2_leaves_16 : decode cX2_leaves 16 = .ok (.getfield 129, 3) := dk_180 0 129 (dk_at dksX2_leaves_0 16 rfl rfl)
theorem dX2_leaves_19 : decode cX2_leaves 19 = .ok (.iconst (-1), 1) := dk_2 (dk_at dksX2_leaves_0 19 rfl rfl)
theorem dX2_leaves_20 : decode cX2_leaves 20 = .ok (.if_icmp .eq 4, 3) := dk_159 0 4 (dk_at dksX2_leaves_0 20 rfl rfl)
theorem dX2_leaves_23 : decode cX2_leaves 23 = .ok (.return_, 1) := dk_177 (dk_at dksX2_leaves_0 23 rfl rfl)
theorem dX2_leaves_24 : decode cX2_leaves 24 = .ok (.aload_n 0, 1) := dk_42 (dk_at dksX2_leaves_1 0 rfl rfl)
theorem dX2_leaves_25 : decode cX2_leaves 25 = .ok (.getfield 38, 3) := dk_180 0 38 (dk_at dksX2_leaves_1 1 rfl rfl)
theorem dX2_leaves_28 : decode cX2_leaves 28 = .ok (.aload_n 0, 1) := dk_42 (dk_at dksX2_leaves_1 4 rfl rfl)
theorem dX2_leaves_29 : decode cX2_leaves 29 = .ok (.getfield 132, 3) := dk_180 0 132 (dk_at dksX2_leaves_1 5 rfl rfl)
theorem dX2_leaves_32 : decode cX2_leaves 32 = .ok (.iload_n 1, 1) := dk_27 (dk_at dksX2_leaves_1 8 rfl rfl)
theorem dX2_leaves_33 : decode cX2_leaves 33 = .ok (.iastore, 1) := dk_79 (dk_at dksX2_leaves_1 9 rfl rfl)
theorem dX2_leaves_34 : decode cX2_leaves 34 = .ok (.aload_n 0, 1) := dk_42 (dk_at dksX2_leaves_1 10 rfl rfl)
theorem dX2_leaves_35 : decode cX2_leaves 35 = .ok (.getfield 41, 3) := dk_180 0 41 (dk_at dksX2_leaves_1 11 rfl rfl)
theorem dX2_leaves_38 : decode cX2_leaves 38 = .ok (.aload_n 0, 1) := dk_42 (dk_at dksX2_leaves_1 14 rfl rfl)
theorem dX2_leaves_39 : decode cX2_leaves 39 = .ok (.getfield 132, 3) := dk_180 0 132 (dk_at dksX2_leaves_1 15 rfl rfl)
theorem dX2_leaves_42 : decode cX2_leaves 42 = .ok (.iload_n 2, 1) := dk_28 (dk_at dksX2_leaves_1 18 rfl rfl)
theorem dX2_leaves_43 : decode cX2_leaves 43 = .ok (.iastore, 1) := dk_79 (dk_at dksX2_leaves_1 19 rfl rfl)
theorem dX2_leaves_44 : decode cX2_leaves 44 = .ok (.aload_n 0, 1) := dk_42 (dk_at dksX2_leaves_1 20 rfl rfl)
theorem dX2_leaves_45 : decode cX2_leaves 45 = .ok (.getfield 44, 3) := dk_180 0 44 (dk_at dksX2_leaves_1 21 rfl rfl)
theorem dX2_leaves_48 : decode cX2_leaves 48 = .ok (.aload_n 0, 1) := dk_42 (dk_at dksX2_leaves_2 0 rfl rfl)
theorem dX2_leaves_49 : decode cX2_leaves 49 = .ok (.getfield 132, 3) := dk_180 0 132 (dk_at dksX2_leaves_2 1 rfl rfl)
theorem dX2_leaves_52 : decode cX2_leaves 52 = .ok (.iload 4, 2) := dk_21 4 (dk_at dksX2_leaves_2 4 rfl rfl)
theorem dX2_leaves_54 : decode cX2_leaves 54 = .ok (.iastore, 1) := dk_79 (dk_at dksX2_leaves_2 6 rfl rfl)
theorem dX2_leaves_55 : decode cX2_leaves 55 = .ok (.aload_n 0, 1) := dk_42 (dk_at dksX2_leaves_2 7 rfl rfl)
theorem dX2_leaves_56 : decode cX2_leaves 56 = .ok (.dup, 1) := dk_89 (dk_at dksX2_leaves_2 8 rfl rfl)
theorem dX2_leaves_57 : decode cX2_leaves 57 = .ok (.getfield 132, 3) := dk_180 0 132 (dk_at dksX2_leaves_2 9 rfl rfl)
theorem dX2_leaves_60 : decode cX2_leaves 60 = .ok (.iconst 1, 1) := dk_4 (dk_at dksX2_leaves_2 12 rfl rfl)
theorem dX2_leaves_61 : decode cX2_leaves 61 = .ok (.iadd, 1) := dk_96 (dk_at dksX2_leaves_2 13 rfl rfl)
theorem dX2_leaves_62 : decode cX2_leaves 62 = .ok (.putfield 132, 3) := dk_181 0 132 (dk_at dksX2_leaves_2 14 rfl rfl)
theorem dX2_leaves_65 : decode cX2_leaves 65 = .ok (.aload_n 0, 1) := dk_42 (dk_at dksX2_leaves_2 17 rfl rfl)
theorem dX2_leaves_66 : decode cX2_leaves 66 = .ok (.getfield 35, 3) := dk_180 0 35 (dk_at dksX2_leaves_2 18 rfl rfl)
theorem dX2_leaves_69 : decode cX2_leaves 69 = .ok (.iload_n 2, 1) := dk_28 (dk_at dksX2_leaves_2 21 rfl rfl)
theorem dX2_leaves_70 : decode cX2_leaves 70 = .ok (.dup2, 1) := dk_92 (dk_at dksX2_leaves_2 22 rfl rfl)
theorem dX2_leaves_71 : decode cX2_leaves 71 = .ok (.iaload, 1) := dk_46 (dk_at dksX2_leaves_2 23 rfl rfl)
theorem dX2_leaves_72 : decode cX2_leaves 72 = .ok (.iload 4, 2) := dk_21 4 (dk_at dksX2_leaves_3 0 rfl rfl)
theorem dX2_leaves_74 : decode cX2_leaves 74 = .ok (.iconst (-1), 1) := dk_2 (dk_at dksX2_leaves_3 2 rfl rfl)
theorem dX2_leaves_75 : decode cX2_leaves 75 = .ok (.ixor, 1) := dk_130 (dk_at dksX2_leaves_3 3 rfl rfl)
theorem dX2_leaves_76 : decode cX2_leaves 76 = .ok (.iand, 1) := dk_126 (dk_at dksX2_leaves_3 4 rfl rfl)
theorem dX2_leaves_77 : decode cX2_leaves 77 = .ok (.iastore, 1) := dk_79 (dk_at dksX2_leaves_3 5 rfl rfl)
theorem dX2_leaves_78 : decode cX2_leaves 78 = .ok (.aload_n 0, 1) := dk_42 (dk_at dksX2_leaves_3 6 rfl rfl)
theorem dX2_leaves_79 : decode cX2_leaves 79 = .ok (.getfield 35, 3) := dk_180 0 35 (dk_at dksX2_leaves_3 7 rfl rfl)
theorem dX2_leaves_82 : decode cX2_leaves 82 = .ok (.iload_n 2, 1) := dk_28 (dk_at dksX2_leaves_3 10 rfl rfl)
theorem dX2_leaves_83 : decode cX2_leaves 83 = .ok (.iaload, 1) := dk_46 (dk_at dksX2_leaves_3 11 rfl rfl)
theorem dX2_leaves_84 : decode cX2_leaves 84 = .ok (.ifCond .ne 8, 3) := dk_154 0 8 (dk_at dksX2_leaves_3 12 rfl rfl)
theorem dX2_leaves_87 : decode cX2_leaves 87 = .ok (.aload_n 0, 1) := dk_42 (dk_at dksX2_leaves_3 15 rfl rfl)
theorem dX2_leaves_88 : decode cX2_leaves 88 = .ok (.iload_n 2, 1) := dk_28 (dk_at dksX2_leaves_3 16 rfl rfl)
theorem dX2_leaves_89 : decode cX2_leaves 89 = .ok (.putfield 129, 3) := dk_181 0 129 (dk_at dksX2_leaves_3 17 rfl rfl)
theorem dX2_leaves_92 : decode cX2_leaves 92 = .ok (.return_, 1) := dk_177 (dk_at dksX2_leaves_3 20 rfl rfl)
abbrev cX2_appliesLearned : ByteArray := prog_24_method_37_code
def yX2_appliesLearned : MethodName := ⟨RX2, "appliesLearned", "(I)V"⟩
def dkwX2_appliesLearned_5 : List UInt8 := [167, 255, 142, 177]
abbrev dktX2_appliesLearned_5 : List UInt8 := dkwX2_appliesLearned_5 ++ []
def dkwX2_appliesLearned_4 : List UInt8 := [29, 153, 0, 18, 42, 27, 28, 4, 42, 27, 28, 182, 0, 120, 120, 182, 0, 135, 177, 132, 2, 1]
abbrev dktX2_appliesLearned_4 : List UInt8 := dkwX2_appliesLearned_4 ++ dktX2_appliesLearned_5
def dkwX2_appliesLearned_3 : List UInt8 := [4, 42, 27, 21, 4, 182, 0, 120, 120, 160, 0, 7, 4, 167, 0, 4, 3, 62, 132, 4, 1, 167, 255, 196]
abbrev dktX2_appliesLearned_3 : List UInt8 := dkwX2_appliesLearned_3 ++ dktX2_appliesLearned_4
def dkwX2_appliesLearned_2 : List UInt8 := [21, 4, 28, 159, 0, 33, 42, 27, 21, 4, 182, 0, 120, 2, 159, 0, 22, 42, 180, 0, 35, 21, 4, 46]
abbrev dktX2_appliesLearned_2 : List UInt8 := dkwX2_appliesLearned_2 ++ dktX2_appliesLearned_3
def dkwX2_appliesLearned_1 : List UInt8 := [167, 0, 4, 3, 62, 3, 54, 4, 21, 4, 42, 180, 0, 7, 3, 46, 162, 0, 55, 29, 153, 0, 43]
abbrev dktX2_appliesLearned_1 : List UInt8 := dkwX2_appliesLearned_1 ++ dktX2_appliesLearned_2
def dkwX2_appliesLearned_0 : List UInt8 := [3, 61, 28, 42, 180, 0, 7, 3, 46, 162, 0, 110, 42, 27, 28, 182, 0, 120, 2, 159, 0, 7, 4]
abbrev dktX2_appliesLearned_0 : List UInt8 := dkwX2_appliesLearned_0 ++ dktX2_appliesLearned_1
theorem dksX2_appliesLearned_0 : cX2_appliesLearned.data.toList.drop 0 = dktX2_appliesLearned_0 := by decide +kernel
theorem dksX2_appliesLearned_1 : cX2_appliesLearned.data.toList.drop 23 = dktX2_appliesLearned_1 := dk_seg dksX2_appliesLearned_0 23 rfl rfl
theorem dksX2_appliesLearned_2 : cX2_appliesLearned.data.toList.drop 46 = dktX2_appliesLearned_2 := dk_seg dksX2_appliesLearned_1 23 rfl rfl
theorem dksX2_appliesLearned_3 : cX2_appliesLearned.data.toList.drop 70 = dktX2_appliesLearned_3 := dk_seg dksX2_appliesLearned_2 24 rfl rfl
theorem dksX2_appliesLearned_4 : cX2_appliesLearned.data.toList.drop 94 = dktX2_appliesLearned_4 := dk_seg dksX2_appliesLearned_3 24 rfl rfl
theorem dksX2_appliesLearned_5 : cX2_appliesLearned.data.toList.drop 116 = dktX2_appliesLearned_5 := dk_seg dksX2_appliesLearned_4 22 rfl rfl
theorem dX2_appliesLearned_0 : decode cX2_appliesLearned 0 = .ok (.iconst 0, 1) := dk_3 (dk_at dksX2_appliesLearned_0 0 rfl rfl)
theorem dX2_appliesLearned_1 : decode cX2_appliesLearned 1 = .ok (.istore_n 2, 1) := dk_61 (dk_at dksX2_appliesLearned_0 1 rfl rfl)
theorem dX2_appliesLearned_2 : decode cX2_appliesLearned 2 = .ok (.iload_n 2, 1) := dk_28 (dk_at dksX2_appliesLearned_0 2 rfl rfl)
theorem dX2_appliesLearned_3 : decode cX2_appliesLearned 3 = .ok (.aload_n 0, 1) := dk_42 (dk_at dksX2_appliesLearned_0 3 rfl rfl)
theorem dX2_appliesLearned_4 : decode cX2_appliesLearned 4 = .ok (.getfield 7, 3) := dk_180 0 7 (dk_at dksX2_appliesLearned_0 4 rfl rfl)
theorem dX2_appliesLearned_7 : decode cX2_appliesLearned 7 = .ok (.iconst 0, 1) := dk_3 (dk_at dksX2_appliesLearned_0 7 rfl rfl)
theorem dX2_appliesLearned_8 : decode cX2_appliesLearned 8 = .ok (.iaload, 1) := dk_46 (dk_at dksX2_appliesLearned_0 8 rfl rfl)
theorem dX2_appliesLearned_9 : decode cX2_appliesLearned 9 = .ok (.if_icmp .ge 110, 3) := dk_162 0 110 (dk_at dksX2_appliesLearned_0 9 rfl rfl)
theorem dX2_appliesLearned_12 : decode cX2_appliesLearned 12 = .ok (.aload_n 0, 1) := dk_42 (dk_at dksX2_appliesLearned_0 12 rfl rfl)
theorem dX2_appliesLearned_13 : decode cX2_appliesLearned 13 = .ok (.iload_n 1, 1) := dk_27 (dk_at dksX2_appliesLearned_0 13 rfl rfl)
theorem dX2_appliesLearned_14 : decode cX2_appliesLearned 14 = .ok (.iload_n 2, 1) := dk_28 (dk_at dksX2_appliesLearned_0 14 rfl rfl)
theorem dX2_appliesLearned_15 : decode cX2_appliesLearned 15 = .ok (.invokevirtual 120, 3) := dk_182 0 120 (dk_at dksX2_appliesLearned_0 15 rfl rfl)
theorem dX2_appliesLearned_18 : decode cX2_appliesLearned 18 = .ok (.iconst (-1), 1) := dk_2 (dk_at dksX2_appliesLearned_0 18 rfl rfl)
theorem dX2_appliesLearned_19 : decode cX2_appliesLearned 19 = .ok (.if_icmp .eq 7, 3) := dk_159 0 7 (dk_at dksX2_appliesLearned_0 19 rfl rfl)
theorem dX2_appliesLearned_22 : decode cX2_appliesLearned 22 = .ok (.iconst 1, 1) := dk_4 (dk_at dksX2_appliesLearned_0 22 rfl rfl)
theorem dX2_appliesLearned_23 : decode cX2_appliesLearned 23 = .ok (.goto 4, 3) := dk_167 0 4 (dk_at dksX2_appliesLearned_1 0 rfl rfl)
theorem dX2_appliesLearned_26 : decode cX2_appliesLearned 26 = .ok (.iconst 0, 1) := dk_3 (dk_at dksX2_appliesLearned_1 3 rfl rfl)
theorem dX2_appliesLearned_27 : decode cX2_appliesLearned 27 = .ok (.istore_n 3, 1) := dk_62 (dk_at dksX2_appliesLearned_1 4 rfl rfl)
theorem dX2_appliesLearned_28 : decode cX2_appliesLearned 28 = .ok (.iconst 0, 1) := dk_3 (dk_at dksX2_appliesLearned_1 5 rfl rfl)
theorem dX2_appliesLearned_29 : decode cX2_appliesLearned 29 = .ok (.istore 4, 2) := dk_54 4 (dk_at dksX2_appliesLearned_1 6 rfl rfl)
theorem dX2_appliesLearned_31 : decode cX2_appliesLearned 31 = .ok (.iload 4, 2) := dk_21 4 (dk_at dksX2_appliesLearned_1 8 rfl rfl)
theorem dX2_appliesLearned_33 : decode cX2_appliesLearned 33 = .ok (.aload_n 0, 1) := dk_42 (dk_at dksX2_appliesLearned_1 10 rfl rfl)
theorem dX2_appliesLearned_34 : decode cX2_appliesLearned 34 = .ok (.getfield 7, 3) := dk_180 0 7 (dk_at dksX2_appliesLearned_1 11 rfl rfl)
theorem dX2_appliesLearned_37 : decode cX2_appliesLearned 37 = .ok (.iconst 0, 1) := dk_3 (dk_at dksX2_appliesLearned_1 14 rfl rfl)
theorem dX2_appliesLearned_38 : decode cX2_appliesLearned 38 = .ok (.iaload, 1) := dk_46 (dk_at dksX2_appliesLearned_1 15 rfl rfl)
theorem dX2_appliesLearned_39 : decode cX2_appliesLearned 39 = .ok (.if_icmp .ge 55, 3) := dk_162 0 55 (dk_at dksX2_appliesLearned_1 16 rfl rfl)
theorem dX2_appliesLearned_42 : decode cX2_appliesLearned 42 = .ok (.iload_n 3, 1) := dk_29 (dk_at dksX2_appliesLearned_1 19 rfl rfl)
theorem dX2_appliesLearned_43 : decode cX2_appliesLearned 43 = .ok (.ifCond .eq 43, 3) := dk_153 0 43 (dk_at dksX2_appliesLearned_1 20 rfl rfl)
theorem dX2_appliesLearned_46 : decode cX2_appliesLearned 46 = .ok (.iload 4, 2) := dk_21 4 (dk_at dksX2_appliesLearned_2 0 rfl rfl)
theorem dX2_appliesLearned_48 : decode cX2_appliesLearned 48 = .ok (.iload_n 2, 1) := dk_28 (dk_at dksX2_appliesLearned_2 2 rfl rfl)
theorem dX2_appliesLearned_49 : decode cX2_appliesLearned 49 = .ok (.if_icmp .eq 33, 3) := dk_159 0 33 (dk_at dksX2_appliesLearned_2 3 rfl rfl)
theorem dX2_appliesLearned_52 : decode cX2_appliesLearned 52 = .ok (.aload_n 0, 1) := dk_42 (dk_at dksX2_appliesLearned_2 6 rfl rfl)
theorem dX2_appliesLearned_53 : decode cX2_appliesLearned 53 = .ok (.iload_n 1, 1) := dk_27 (dk_at dksX2_appliesLearned_2 7 rfl rfl)
theorem dX2_appliesLearned_54 : decode cX2_appliesLearned 54 = .ok (.iload 4, 2) := dk_21 4 (dk_at dksX2_appliesLearned_2 8 rfl rfl)
theorem dX2_appliesLearned_56 : decode cX2_appliesLearned 56 = .ok (.invokevirtual 120, 3) := dk_182 0 120 (dk_at dksX2_appliesLearned_2 10 rfl rfl)
theorem dX2_appliesLearned_59 : decode cX2_appliesLearned 59 = .ok (.iconst (-1), 1) := dk_2 (dk_at dksX2_appliesLearned_2 13 rfl rfl)
theorem dX2_appliesLearned_60 : decode cX2_appliesLearned 60 = .ok (.if_icmp .eq 22, 3) := dk_159 0 22 (dk_at dksX2_appliesLearned_2 14 rfl rfl)
theorem dX2_appliesLearned_63 : decode cX2_appliesLearned 63 = .ok (.aload_n 0, 1) := dk_42 (dk_at dksX2_appliesLearned_2 17 rfl rfl)
theorem dX2_appliesLearned_64 : decode cX2_appliesLearned 64 = .ok (.getfield 35, 3) := dk_180 0 35 (dk_at dksX2_appliesLearned_2 18 rfl rfl)
theorem dX2_appliesLearned_67 : decode cX2_appliesLearned 67 = .ok (.iload 4, 2) := dk_21 4 (dk_at dksX2_appliesLearned_2 21 rfl rfl)
theorem dX2_appliesLearned_69 : decode cX2_appliesLearned 69 = .ok (.iaload, 1) := dk_46 (dk_at dksX2_appliesLearned_2 23 rfl rfl)
theorem dX2_appliesLearned_70 : decode cX2_appliesLearned 70 = .ok (.iconst 1, 1) := dk_4 (dk_at dksX2_appliesLearned_3 0 rfl rfl)
theorem dX2_appliesLearned_71 : decode cX2_appliesLearned 71 = .ok (.aload_n 0, 1) := dk_42 (dk_at dksX2_appliesLearned_3 1 rfl rfl)
theorem dX2_appliesLearned_72 : decode cX2_appliesLearned 72 = .ok (.iload_n 1, 1) := dk_27 (dk_at dksX2_appliesLearned_3 2 rfl rfl)
theorem dX2_appliesLearned_73 : decode cX2_appliesLearned 73 = .ok (.iload 4, 2) := dk_21 4 (dk_at dksX2_appliesLearned_3 3 rfl rfl)
theorem dX2_appliesLearned_75 : decode cX2_appliesLearned 75 = .ok (.invokevirtual 120, 3) := dk_182 0 120 (dk_at dksX2_appliesLearned_3 5 rfl rfl)
theorem dX2_appliesLearned_78 : decode cX2_appliesLearned 78 = .ok (.ishl, 1) := dk_120 (dk_at dksX2_appliesLearned_3 8 rfl rfl)
theorem dX2_appliesLearned_79 : decode cX2_appliesLearned 79 = .ok (.if_icmp .ne 7, 3) := dk_160 0 7 (dk_at dksX2_appliesLearned_3 9 rfl rfl)
theorem dX2_appliesLearned_82 : decode cX2_appliesLearned 82 = .ok (.iconst 1, 1) := dk_4 (dk_at dksX2_appliesLearned_3 12 rfl rfl)
theorem dX2_appliesLearned_83 : decode cX2_appliesLearned 83 = .ok (.goto 4, 3) := dk_167 0 4 (dk_at dksX2_appliesLearned_3 13 rfl rfl)
theorem dX2_appliesLearned_86 : decode cX2_appliesLearned 86 = .ok (.iconst 0, 1) := dk_3 (dk_at dksX2_appliesLearned_3 16 rfl rfl)
theorem dX2_appliesLearned_87 : decode cX2_appliesLearned 87 = .ok (.istore_n 3, 1) := dk_62 (dk_at dksX2_appliesLearned_3 17 rfl rfl)
theorem dX2_appliesLearned_88 : decode cX2_appliesLearned 88 = .ok (.iinc 4 1, 3) := dk_132 4 1 (dk_at dksX2_appliesLearned_3 18 rfl rfl)
theorem dX2_appliesLearned_91 : decode cX2_appliesLearned 91 = .ok (.goto (-60), 3) := dk_167 255 196 (dk_at dksX2_appliesLearned_3 21 rfl rfl)
theorem dX2_appliesLearned_94 : decode cX2_appliesLearned 94 = .ok (.iload_n 3, 1) := dk_29 (dk_at dksX2_appliesLearned_4 0 rfl rfl)
theorem dX2_appliesLearned_95 : decode cX2_appliesLearned 95 = .ok (.ifCond .eq 18, 3) := dk_153 0 18 (dk_at dksX2_appliesLearned_4 1 rfl rfl)
theorem dX2_appliesLearned_98 : decode cX2_appliesLearned 98 = .ok (.aload_n 0, 1) := dk_42 (dk_at dksX2_appliesLearned_4 4 rfl rfl)
theorem dX2_appliesLearned_99 : decode cX2_appliesLearned 99 = .ok (.iload_n 1, 1) := dk_27 (dk_at dksX2_appliesLearned_4 5 rfl rfl)
theorem dX2_appliesLearned_100 : decode cX2_appliesLearned 100 = .ok (.iload_n 2, 1) := dk_28 (dk_at dksX2_appliesLearned_4 6 rfl rfl)
theorem dX2_appliesLearned_101 : decode cX2_appliesLearned 101 = .ok (.iconst 1, 1) := dk_4 (dk_at dksX2_appliesLearned_4 7 rfl rfl)
theorem dX2_appliesLearned_102 : decode cX2_appliesLearned 102 = .ok (.aload_n 0, 1) := dk_42 (dk_at dksX2_appliesLearned_4 8 rfl rfl)
theorem dX2_appliesLearned_103 : decode cX2_appliesLearned 103 = .ok (.iload_n 1, 1) := dk_27 (dk_at dksX2_appliesLearned_4 9 rfl rfl)
theorem dX2_appliesLearned_104 : decode cX2_appliesLearned 104 = .ok (.iload_n 2, 1) := dk_28 (dk_at dksX2_appliesLearned_4 10 rfl rfl)
theorem dX2_appliesLearned_105 : decode cX2_appliesLearned 105 = .ok (.invokevirtual 120, 3) := dk_182 0 120 (dk_at dksX2_appliesLearned_4 11 rfl rfl)
theorem dX2_appliesLearned_108 : decode cX2_appliesLearned 108 = .ok (.ishl, 1) := dk_120 (dk_at dksX2_appliesLearned_4 14 rfl rfl)
theorem dX2_appliesLearned_109 : decode cX2_appliesLearned 109 = .ok (.invokevirtual 135, 3) := dk_182 0 135 (dk_at dksX2_appliesLearned_4 15 rfl rfl)
theorem dX2_appliesLearned_112 : decode cX2_appliesLearned 112 = .ok (.return_, 1) := dk_177 (dk_at dksX2_appliesLearned_4 18 rfl rfl)
theorem dX2_appliesLearned_113 : decode cX2_appliesLearned 113 = .ok (.iinc 2 1, 3) := dk_132 2 1 (dk_at dksX2_appliesLearned_4 19 rfl rfl)
theorem dX2_appliesLearned_116 : decode cX2_appliesLearned 116 = .ok (.goto (-114), 3) := dk_167 255 142 (dk_at dksX2_appliesLearned_5 0 rfl rfl)
theorem dX2_appliesLearned_119 : decode cX2_appliesLearned 119 = .ok (.return_, 1) := dk_177 (dk_at dksX2_appliesLearned_5 3 rfl rfl)
abbrev cX2_steps : ByteArray := prog_24_method_45_code
def yX2_steps : MethodName := ⟨RX2, "steps", "()I"⟩
def dkwX2_steps_0 : List UInt8 := [42, 182, 0, 158, 42, 180, 0, 132, 172]
abbrev dktX2_steps_0 : List UInt8 := dkwX2_steps_0 ++ []
theorem dksX2_steps_0 : cX2_steps.data.toList.drop 0 = dktX2_steps_0 := by decide +kernel
theorem dX2_steps_0 : decode cX2_steps 0 = .ok (.aload_n 0, 1) := dk_42 (dk_at dksX2_steps_0 0 rfl rfl)
theorem dX2_steps_1 : decode cX2_steps 1 = .ok (.invokevirtual 158, 3) := dk_182 0 158 (dk_at dksX2_steps_0 1 rfl rfl)
theorem dX2_steps_4 : decode cX2_steps 4 = .ok (.aload_n 0, 1) := dk_42 (dk_at dksX2_steps_0 4 rfl rfl)
theorem dX2_steps_5 : decode cX2_steps 5 = .ok (.getfield 132, 3) := dk_180 0 132 (dk_at dksX2_steps_0 5 rfl rfl)
theorem dX2_steps_8 : decode cX2_steps 8 = .ok (.ireturn, 1) := dk_172 (dk_at dksX2_steps_0 8 rfl rfl)
abbrev cX2_step : ByteArray := prog_24_method_47_code
def yX2_step : MethodName := ⟨RX2, "step", "(II)I"⟩
def dkwX2_step_3 : List UInt8 := [182, 0, 161, 172, 16, 254, 172]
abbrev dktX2_step_3 : List UInt8 := dkwX2_step_3 ++ []
def dkwX2_step_2 : List UInt8 := [42, 180, 0, 38, 27, 46, 172, 42, 180, 0, 41, 27, 46, 172, 42, 180, 0, 44, 27, 46, 172, 42, 27]
abbrev dktX2_step_2 : List UInt8 := dkwX2_step_2 ++ dktX2_step_3
def dkwX2_step_1 : List UInt8 := [170, 0, 0, 0, 0, 0, 58, 0, 0, 0, 0, 0, 0, 0, 3, 0, 0, 0, 31, 0, 0, 0, 38, 0, 0, 0, 45, 0, 0, 0, 52]
abbrev dktX2_step_1 : List UInt8 := dkwX2_step_1 ++ dktX2_step_2
def dkwX2_step_0 : List UInt8 := [42, 182, 0, 158, 27, 3, 42, 180, 0, 132, 4, 100, 184, 0, 59, 154, 0, 5, 2, 172, 28]
abbrev dktX2_step_0 : List UInt8 := dkwX2_step_0 ++ dktX2_step_1
theorem dksX2_step_0 : cX2_step.data.toList.drop 0 = dktX2_step_0 := by decide +kernel
theorem dksX2_step_1 : cX2_step.data.toList.drop 21 = dktX2_step_1 := dk_seg dksX2_step_0 21 rfl rfl
theorem dksX2_step_2 : cX2_step.data.toList.drop 52 = dktX2_step_2 := dk_seg dksX2_step_1 31 rfl rfl
theorem dksX2_step_3 : cX2_step.data.toList.drop 75 = dktX2_step_3 := dk_seg dksX2_step_2 23 rfl rfl
theorem dX2_step_0 : decode cX2_step 0 = .ok (.aload_n 0, 1) := dk_42 (dk_at dksX2_step_0 0 rfl rfl)
theorem dX2_step_1 : decode cX2_step 1 = .ok (.invokevirtual 158, 3) := dk_182 0 158 (dk_at dksX2_step_0 1 rfl rfl)
theorem dX2_step_4 : decode cX2_step 4 = .ok (.iload_n 1, 1) := dk_27 (dk_at dksX2_step_0 4 rfl rfl)
theorem dX2_step_5 : decode cX2_step 5 = .ok (.iconst 0, 1) := dk_3 (dk_at dksX2_step_0 5 rfl rfl)
theorem dX2_step_6 : decode cX2_step 6 = .ok (.aload_n 0, 1) := dk_42 (dk_at dksX2_step_0 6 rfl rfl)
theorem dX2_step_7 : decode cX2_step 7 = .ok (.getfield 132, 3) := dk_180 0 132 (dk_at dksX2_step_0 7 rfl rfl)
theorem dX2_step_10 : decode cX2_step 10 = .ok (.iconst 1, 1) := dk_4 (dk_at dksX2_step_0 10 rfl rfl)
theorem dX2_step_11 : decode cX2_step 11 = .ok (.isub, 1) := dk_100 (dk_at dksX2_step_0 11 rfl rfl)
theorem dX2_step_12 : decode cX2_step 12 = .ok (.invokestatic 59, 3) := dk_184 0 59 (dk_at dksX2_step_0 12 rfl rfl)
theorem dX2_step_15 : decode cX2_step 15 = .ok (.ifCond .ne 5, 3) := dk_154 0 5 (dk_at dksX2_step_0 15 rfl rfl)
theorem dX2_step_18 : decode cX2_step 18 = .ok (.iconst (-1), 1) := dk_2 (dk_at dksX2_step_0 18 rfl rfl)
theorem dX2_step_19 : decode cX2_step 19 = .ok (.ireturn, 1) := dk_172 (dk_at dksX2_step_0 19 rfl rfl)
theorem dX2_step_20 : decode cX2_step 20 = .ok (.iload_n 2, 1) := dk_28 (dk_at dksX2_step_0 20 rfl rfl)
theorem dX2_step_21 : decode cX2_step 21 = .ok (.tableswitch 58 0 3 #[31, 38, 45, 52], 31) := by decide +kernel
theorem dX2_step_52 : decode cX2_step 52 = .ok (.aload_n 0, 1) := dk_42 (dk_at dksX2_step_2 0 rfl rfl)
theorem dX2_step_53 : decode cX2_step 53 = .ok (.getfield 38, 3) := dk_180 0 38 (dk_at dksX2_step_2 1 rfl rfl)
theorem dX2_step_56 : decode cX2_step 56 = .ok (.iload_n 1, 1) := dk_27 (dk_at dksX2_step_2 4 rfl rfl)
theorem dX2_step_57 : decode cX2_step 57 = .ok (.iaload, 1) := dk_46 (dk_at dksX2_step_2 5 rfl rfl)
theorem dX2_step_58 : decode cX2_step 58 = .ok (.ireturn, 1) := dk_172 (dk_at dksX2_step_2 6 rfl rfl)
theorem dX2_step_59 : decode cX2_step 59 = .ok (.aload_n 0, 1) := dk_42 (dk_at dksX2_step_2 7 rfl rfl)
theorem dX2_step_60 : decode cX2_step 60 = .ok (.getfield 41, 3) := dk_180 0 41 (dk_at dksX2_step_2 8 rfl rfl)
theorem dX2_step_63 : decode cX2_step 63 = .ok (.iload_n 1, 1) := dk_27 (dk_at dksX2_step_2 11 rfl rfl)
theorem dX2_step_64 : decode cX2_step 64 = .ok (.iaload, 1) := dk_46 (dk_at dksX2_step_2 12 rfl rfl)
theorem dX2_step_65 : decode cX2_step 65 = .ok (.ireturn, 1) := dk_172 (dk_at dksX2_step_2 13 rfl rfl)
theorem dX2_step_66 : decode cX2_step 66 = .ok (.aload_n 0, 1) := dk_42 (dk_at dksX2_step_2 14 rfl rfl)
theorem dX2_step_67 : decode cX2_step 67 = .ok (.getfield 44, 3) := dk_180 0 44 (dk_at dksX2_step_2 15 rfl rfl)
theorem dX2_step_70 : decode cX2_step 70 = .ok (.iload_n 1, 1) := dk_27 (dk_at dksX2_step_2 18 rfl rfl)
theorem dX2_step_71 : decode cX2_step 71 = .ok (.iaload, 1) := dk_46 (dk_at dksX2_step_2 19 rfl rfl)
theorem dX2_step_72 : decode cX2_step 72 = .ok (.ireturn, 1) := dk_172 (dk_at dksX2_step_2 20 rfl rfl)
theorem dX2_step_73 : decode cX2_step 73 = .ok (.aload_n 0, 1) := dk_42 (dk_at dksX2_step_2 21 rfl rfl)
theorem dX2_step_74 : decode cX2_step 74 = .ok (.iload_n 1, 1) := dk_27 (dk_at dksX2_step_2 22 rfl rfl)
theorem dX2_step_75 : decode cX2_step 75 = .ok (.invokevirtual 161, 3) := dk_182 0 161 (dk_at dksX2_step_3 0 rfl rfl)
theorem dX2_step_78 : decode cX2_step 78 = .ok (.ireturn, 1) := dk_172 (dk_at dksX2_step_3 3 rfl rfl)
theorem dX2_step_79 : decode cX2_step 79 = .ok (.bipush (-2), 2) := dk_16 254 (dk_at dksX2_step_3 4 rfl rfl)
theorem dX2_step_81 : decode cX2_step 81 = .ok (.ireturn, 1) := dk_172 (dk_at dksX2_step_3 6 rfl rfl)
abbrev cX2_restsOn : ByteArray := prog_24_method_46_code
def yX2_restsOn : MethodName := ⟨RX2, "restsOn", "(I)I"⟩
def dkwX2_restsOn_1 : List UInt8 := [96, 61, 132, 3, 1, 167, 255, 231, 28, 172]
abbrev dktX2_restsOn_1 : List UInt8 := dkwX2_restsOn_1 ++ []
def dkwX2_restsOn_0 : List UInt8 := [3, 61, 3, 62, 29, 27, 162, 0, 26, 28, 42, 27, 29, 182, 0, 155, 153, 0, 7, 4, 167, 0, 4, 3]
abbrev dktX2_restsOn_0 : List UInt8 := dkwX2_restsOn_0 ++ dktX2_restsOn_1
theorem dksX2_restsOn_0 : cX2_restsOn.data.toList.drop 0 = dktX2_restsOn_0 := by decide +kernel
theorem dksX2_restsOn_1 : cX2_restsOn.data.toList.drop 24 = dktX2_restsOn_1 := dk_seg dksX2_restsOn_0 24 rfl rfl
theorem dX2_restsOn_0 : decode cX2_restsOn 0 = .ok (.iconst 0, 1) := dk_3 (dk_at dksX2_restsOn_0 0 rfl rfl)
theorem dX2_restsOn_1 : decode cX2_restsOn 1 = .ok (.istore_n 2, 1) := dk_61 (dk_at dksX2_restsOn_0 1 rfl rfl)
theorem dX2_restsOn_2 : decode cX2_restsOn 2 = .ok (.iconst 0, 1) := dk_3 (dk_at dksX2_restsOn_0 2 rfl rfl)
theorem dX2_restsOn_3 : decode cX2_restsOn 3 = .ok (.istore_n 3, 1) := dk_62 (dk_at dksX2_restsOn_0 3 rfl rfl)
theorem dX2_restsOn_4 : decode cX2_restsOn 4 = .ok (.iload_n 3, 1) := dk_29 (dk_at dksX2_restsOn_0 4 rfl rfl)
theorem dX2_restsOn_5 : decode cX2_restsOn 5 = .ok (.iload_n 1, 1) := dk_27 (dk_at dksX2_restsOn_0 5 rfl rfl)
theorem dX2_restsOn_6 : decode cX2_restsOn 6 = .ok (.if_icmp .ge 26, 3) := dk_162 0 26 (dk_at dksX2_restsOn_0 6 rfl rfl)
theorem dX2_restsOn_9 : decode cX2_restsOn 9 = .ok (.iload_n 2, 1) := dk_28 (dk_at dksX2_restsOn_0 9 rfl rfl)
theorem dX2_restsOn_10 : decode cX2_restsOn 10 = .ok (.aload_n 0, 1) := dk_42 (dk_at dksX2_restsOn_0 10 rfl rfl)
theorem dX2_restsOn_11 : decode cX2_restsOn 11 = .ok (.iload_n 1, 1) := dk_27 (dk_at dksX2_restsOn_0 11 rfl rfl)
theorem dX2_restsOn_12 : decode cX2_restsOn 12 = .ok (.iload_n 3, 1) := dk_29 (dk_at dksX2_restsOn_0 12 rfl rfl)
theorem dX2_restsOn_13 : decode cX2_restsOn 13 = .ok (.invokevirtual 155, 3) := dk_182 0 155 (dk_at dksX2_restsOn_0 13 rfl rfl)
theorem dX2_restsOn_16 : decode cX2_restsOn 16 = .ok (.ifCond .eq 7, 3) := dk_153 0 7 (dk_at dksX2_restsOn_0 16 rfl rfl)
theorem dX2_restsOn_19 : decode cX2_restsOn 19 = .ok (.iconst 1, 1) := dk_4 (dk_at dksX2_restsOn_0 19 rfl rfl)
theorem dX2_restsOn_20 : decode cX2_restsOn 20 = .ok (.goto 4, 3) := dk_167 0 4 (dk_at dksX2_restsOn_0 20 rfl rfl)
theorem dX2_restsOn_23 : decode cX2_restsOn 23 = .ok (.iconst 0, 1) := dk_3 (dk_at dksX2_restsOn_0 23 rfl rfl)
theorem dX2_restsOn_24 : decode cX2_restsOn 24 = .ok (.iadd, 1) := dk_96 (dk_at dksX2_restsOn_1 0 rfl rfl)
theorem dX2_restsOn_25 : decode cX2_restsOn 25 = .ok (.istore_n 2, 1) := dk_61 (dk_at dksX2_restsOn_1 1 rfl rfl)
theorem dX2_restsOn_26 : decode cX2_restsOn 26 = .ok (.iinc 3 1, 3) := dk_132 3 1 (dk_at dksX2_restsOn_1 2 rfl rfl)
theorem dX2_restsOn_29 : decode cX2_restsOn 29 = .ok (.goto (-25), 3) := dk_167 255 231 (dk_at dksX2_restsOn_1 5 rfl rfl)
theorem dX2_restsOn_32 : decode cX2_restsOn 32 = .ok (.iload_n 2, 1) := dk_28 (dk_at dksX2_restsOn_1 8 rfl rfl)
theorem dX2_restsOn_33 : decode cX2_restsOn 33 = .ok (.ireturn, 1) := dk_172 (dk_at dksX2_restsOn_1 9 rfl rfl)
abbrev cX2_rests : ByteArray := prog_24_method_41_code
def yX2_rests : MethodName := ⟨RX2, "rests", "(II)Z"⟩
def dkwX2_rests_4 : List UInt8 := [167, 0, 4, 3, 172]
abbrev dktX2_rests_4 : List UInt8 := dkwX2_rests_4 ++ []
def dkwX2_rests_3 : List UInt8 := [21, 4, 42, 29, 4, 182, 0, 87, 159, 0, 14, 21, 4, 42, 29, 6, 182, 0, 87, 160, 0, 7, 4]
abbrev dktX2_rests_3 : List UInt8 := dkwX2_rests_3 ++ dktX2_rests_4
def dkwX2_rests_2 : List UInt8 := [42, 29, 21, 4, 182, 0, 120, 2, 159, 0, 7, 4, 167, 0, 39, 3, 167, 0, 35, 21, 5, 153, 0, 29]
abbrev dktX2_rests_2 : List UInt8 := dkwX2_rests_2 ++ dktX2_rests_3
def dkwX2_rests_1 : List UInt8 := [180, 0, 41, 27, 46, 160, 0, 5, 3, 172, 42, 29, 3, 182, 0, 87, 54, 5, 21, 5, 6, 160, 0, 22]
abbrev dktX2_rests_1 : List UInt8 := dkwX2_rests_1 ++ dktX2_rests_2
def dkwX2_rests_0 : List UInt8 := [42, 180, 0, 38, 27, 46, 62, 42, 180, 0, 41, 28, 46, 54, 4, 29, 16, 100, 162, 0, 14, 21, 4, 42]
abbrev dktX2_rests_0 : List UInt8 := dkwX2_rests_0 ++ dktX2_rests_1
theorem dksX2_rests_0 : cX2_rests.data.toList.drop 0 = dktX2_rests_0 := by decide +kernel
theorem dksX2_rests_1 : cX2_rests.data.toList.drop 24 = dktX2_rests_1 := dk_seg dksX2_rests_0 24 rfl rfl
theorem dksX2_rests_2 : cX2_rests.data.toList.drop 48 = dktX2_rests_2 := dk_seg dksX2_rests_1 24 rfl rfl
theorem dksX2_rests_3 : cX2_rests.data.toList.drop 72 = dktX2_rests_3 := dk_seg dksX2_rests_2 24 rfl rfl
theorem dksX2_rests_4 : cX2_rests.data.toList.drop 95 = dktX2_rests_4 := dk_seg dksX2_rests_3 23 rfl rfl
theorem dX2_rests_0 : decode cX2_rests 0 = .ok (.aload_n 0, 1) := dk_42 (dk_at dksX2_rests_0 0 rfl rfl)
theorem dX2_rests_1 : decode cX2_rests 1 = .ok (.getfield 38, 3) := dk_180 0 38 (dk_at dksX2_rests_0 1 rfl rfl)
theorem dX2_rests_4 : decode cX2_rests 4 = .ok (.iload_n 1, 1) := dk_27 (dk_at dksX2_rests_0 4 rfl rfl)
theorem dX2_rests_5 : decode cX2_rests 5 = .ok (.iaload, 1) := dk_46 (dk_at dksX2_rests_0 5 rfl rfl)
theorem dX2_rests_6 : decode cX2_rests 6 = .ok (.istore_n 3, 1) := dk_62 (dk_at dksX2_rests_0 6 rfl rfl)
theorem dX2_rests_7 : decode cX2_rests 7 = .ok (.aload_n 0, 1) := dk_42 (dk_at dksX2_rests_0 7 rfl rfl)
theorem dX2_rests_8 : decode cX2_rests 8 = .ok (.getfield 41, 3) := dk_180 0 41 (dk_at dksX2_rests_0 8 rfl rfl)
theorem dX2_rests_11 : decode cX2_rests 11 = .ok (.iload_n 2, 1) := dk_28 (dk_at dksX2_rests_0 11 rfl rfl)
theorem dX2_rests_12 : decode cX2_rests 12 = .ok (.iaload, 1) := dk_46 (dk_at dksX2_rests_0 12 rfl rfl)
theorem dX2_rests_13 : decode cX2_rests 13 = .ok (.istore 4, 2) := dk_54 4 (dk_at dksX2_rests_0 13 rfl rfl)
theorem dX2_rests_15 : decode cX2_rests 15 = .ok (.iload_n 3, 1) := dk_29 (dk_at dksX2_rests_0 15 rfl rfl)
theorem dX2_rests_16 : decode cX2_rests 16 = .ok (.bipush 100, 2) := dk_16 100 (dk_at dksX2_rests_0 16 rfl rfl)
theorem dX2_rests_18 : decode cX2_rests 18 = .ok (.if_icmp .ge 14, 3) := dk_162 0 14 (dk_at dksX2_rests_0 18 rfl rfl)
theorem dX2_rests_21 : decode cX2_rests 21 = .ok (.iload 4, 2) := dk_21 4 (dk_at dksX2_rests_0 21 rfl rfl)
theorem dX2_rests_23 : decode cX2_rests 23 = .ok (.aload_n 0, 1) := dk_42 (dk_at dksX2_rests_0 23 rfl rfl)
theorem dX2_rests_24 : decode cX2_rests 24 = .ok (.getfield 41, 3) := dk_180 0 41 (dk_at dksX2_rests_1 0 rfl rfl)
theorem dX2_rests_27 : decode cX2_rests 27 = .ok (.iload_n 1, 1) := dk_27 (dk_at dksX2_rests_1 3 rfl rfl)
theorem dX2_rests_28 : decode cX2_rests 28 = .ok (.iaload, 1) := dk_46 (dk_at dksX2_rests_1 4 rfl rfl)
theorem dX2_rests_29 : decode cX2_rests 29 = .ok (.if_icmp .ne 5, 3) := dk_160 0 5 (dk_at dksX2_rests_1 5 rfl rfl)
theorem dX2_rests_32 : decode cX2_rests 32 = .ok (.iconst 0, 1) := dk_3 (dk_at dksX2_rests_1 8 rfl rfl)
theorem dX2_rests_33 : decode cX2_rests 33 = .ok (.ireturn, 1) := dk_172 (dk_at dksX2_rests_1 9 rfl rfl)
theorem dX2_rests_34 : decode cX2_rests 34 = .ok (.aload_n 0, 1) := dk_42 (dk_at dksX2_rests_1 10 rfl rfl)
theorem dX2_rests_35 : decode cX2_rests 35 = .ok (.iload_n 3, 1) := dk_29 (dk_at dksX2_rests_1 11 rfl rfl)
theorem dX2_rests_36 : decode cX2_rests 36 = .ok (.iconst 0, 1) := dk_3 (dk_at dksX2_rests_1 12 rfl rfl)
theorem dX2_rests_37 : decode cX2_rests 37 = .ok (.invokevirtual 87, 3) := dk_182 0 87 (dk_at dksX2_rests_1 13 rfl rfl)
theorem dX2_rests_40 : decode cX2_rests 40 = .ok (.istore 5, 2) := dk_54 5 (dk_at dksX2_rests_1 16 rfl rfl)
theorem dX2_rests_42 : decode cX2_rests 42 = .ok (.iload 5, 2) := dk_21 5 (dk_at dksX2_rests_1 18 rfl rfl)
theorem dX2_rests_44 : decode cX2_rests 44 = .ok (.iconst 3, 1) := dk_6 (dk_at dksX2_rests_1 20 rfl rfl)
theorem dX2_rests_45 : decode cX2_rests 45 = .ok (.if_icmp .ne 22, 3) := dk_160 0 22 (dk_at dksX2_rests_1 21 rfl rfl)
theorem dX2_rests_48 : decode cX2_rests 48 = .ok (.aload_n 0, 1) := dk_42 (dk_at dksX2_rests_2 0 rfl rfl)
theorem dX2_rests_49 : decode cX2_rests 49 = .ok (.iload_n 3, 1) := dk_29 (dk_at dksX2_rests_2 1 rfl rfl)
theorem dX2_rests_50 : decode cX2_rests 50 = .ok (.iload 4, 2) := dk_21 4 (dk_at dksX2_rests_2 2 rfl rfl)
theorem dX2_rests_52 : decode cX2_rests 52 = .ok (.invokevirtual 120, 3) := dk_182 0 120 (dk_at dksX2_rests_2 4 rfl rfl)
theorem dX2_rests_55 : decode cX2_rests 55 = .ok (.iconst (-1), 1) := dk_2 (dk_at dksX2_rests_2 7 rfl rfl)
theorem dX2_rests_56 : decode cX2_rests 56 = .ok (.if_icmp .eq 7, 3) := dk_159 0 7 (dk_at dksX2_rests_2 8 rfl rfl)
theorem dX2_rests_59 : decode cX2_rests 59 = .ok (.iconst 1, 1) := dk_4 (dk_at dksX2_rests_2 11 rfl rfl)
theorem dX2_rests_60 : decode cX2_rests 60 = .ok (.goto 39, 3) := dk_167 0 39 (dk_at dksX2_rests_2 12 rfl rfl)
theorem dX2_rests_63 : decode cX2_rests 63 = .ok (.iconst 0, 1) := dk_3 (dk_at dksX2_rests_2 15 rfl rfl)
theorem dX2_rests_64 : decode cX2_rests 64 = .ok (.goto 35, 3) := dk_167 0 35 (dk_at dksX2_rests_2 16 rfl rfl)
theorem dX2_rests_67 : decode cX2_rests 67 = .ok (.iload 5, 2) := dk_21 5 (dk_at dksX2_rests_2 19 rfl rfl)
theorem dX2_rests_69 : decode cX2_rests 69 = .ok (.ifCond .eq 29, 3) := dk_153 0 29 (dk_at dksX2_rests_2 21 rfl rfl)
theorem dX2_rests_72 : decode cX2_rests 72 = .ok (.iload 4, 2) := dk_21 4 (dk_at dksX2_rests_3 0 rfl rfl)
theorem dX2_rests_74 : decode cX2_rests 74 = .ok (.aload_n 0, 1) := dk_42 (dk_at dksX2_rests_3 2 rfl rfl)
theorem dX2_rests_75 : decode cX2_rests 75 = .ok (.iload_n 3, 1) := dk_29 (dk_at dksX2_rests_3 3 rfl rfl)
theorem dX2_rests_76 : decode cX2_rests 76 = .ok (.iconst 1, 1) := dk_4 (dk_at dksX2_rests_3 4 rfl rfl)
theorem dX2_rests_77 : decode cX2_rests 77 = .ok (.invokevirtual 87, 3) := dk_182 0 87 (dk_at dksX2_rests_3 5 rfl rfl)
theorem dX2_rests_80 : decode cX2_rests 80 = .ok (.if_icmp .eq 14, 3) := dk_159 0 14 (dk_at dksX2_rests_3 8 rfl rfl)
theorem dX2_rests_83 : decode cX2_rests 83 = .ok (.iload 4, 2) := dk_21 4 (dk_at dksX2_rests_3 11 rfl rfl)
theorem dX2_rests_85 : decode cX2_rests 85 = .ok (.aload_n 0, 1) := dk_42 (dk_at dksX2_rests_3 13 rfl rfl)
theorem dX2_rests_86 : decode cX2_rests 86 = .ok (.iload_n 3, 1) := dk_29 (dk_at dksX2_rests_3 14 rfl rfl)
theorem dX2_rests_87 : decode cX2_rests 87 = .ok (.iconst 3, 1) := dk_6 (dk_at dksX2_rests_3 15 rfl rfl)
theorem dX2_rests_88 : decode cX2_rests 88 = .ok (.invokevirtual 87, 3) := dk_182 0 87 (dk_at dksX2_rests_3 16 rfl rfl)
theorem dX2_rests_91 : decode cX2_rests 91 = .ok (.if_icmp .ne 7, 3) := dk_160 0 7 (dk_at dksX2_rests_3 19 rfl rfl)
theorem dX2_rests_94 : decode cX2_rests 94 = .ok (.iconst 1, 1) := dk_4 (dk_at dksX2_rests_3 22 rfl rfl)
theorem dX2_rests_95 : decode cX2_rests 95 = .ok (.goto 4, 3) := dk_167 0 4 (dk_at dksX2_rests_4 0 rfl rfl)
theorem dX2_rests_98 : decode cX2_rests 98 = .ok (.iconst 0, 1) := dk_3 (dk_at dksX2_rests_4 3 rfl rfl)
theorem dX2_rests_99 : decode cX2_rests 99 = .ok (.ireturn, 1) := dk_172 (dk_at dksX2_rests_4 4 rfl rfl)
abbrev cX2_cause : ByteArray := prog_24_method_49_code
def yX2_cause : MethodName := ⟨RX2, "cause", "(II)I"⟩
def dkwX2_cause_2 : List UInt8 := [180, 0, 44, 29, 46, 28, 122, 4, 126, 4, 160, 0, 5, 29, 172, 132, 3, 1, 167, 255, 219, 16, 251, 172]
abbrev dktX2_cause_2 : List UInt8 := dkwX2_cause_2 ++ []
def dkwX2_cause_1 : List UInt8 := [16, 254, 172, 3, 62, 29, 42, 180, 0, 132, 162, 0, 35, 42, 180, 0, 41, 29, 46, 27, 160, 0, 19, 42]
abbrev dktX2_cause_1 : List UInt8 := dkwX2_cause_1 ++ dktX2_cause_2
def dkwX2_cause_0 : List UInt8 := [42, 182, 0, 158, 42, 27, 182, 0, 63, 154, 0, 5, 2, 172, 42, 27, 28, 182, 0, 164, 154, 0, 6]
abbrev dktX2_cause_0 : List UInt8 := dkwX2_cause_0 ++ dktX2_cause_1
theorem dksX2_cause_0 : cX2_cause.data.toList.drop 0 = dktX2_cause_0 := by decide +kernel
theorem dksX2_cause_1 : cX2_cause.data.toList.drop 23 = dktX2_cause_1 := dk_seg dksX2_cause_0 23 rfl rfl
theorem dksX2_cause_2 : cX2_cause.data.toList.drop 47 = dktX2_cause_2 := dk_seg dksX2_cause_1 24 rfl rfl
theorem dX2_cause_0 : decode cX2_cause 0 = .ok (.aload_n 0, 1) := dk_42 (dk_at dksX2_cause_0 0 rfl rfl)
theorem dX2_cause_1 : decode cX2_cause 1 = .ok (.invokevirtual 158, 3) := dk_182 0 158 (dk_at dksX2_cause_0 1 rfl rfl)
theorem dX2_cause_4 : decode cX2_cause 4 = .ok (.aload_n 0, 1) := dk_42 (dk_at dksX2_cause_0 4 rfl rfl)
theorem dX2_cause_5 : decode cX2_cause 5 = .ok (.iload_n 1, 1) := dk_27 (dk_at dksX2_cause_0 5 rfl rfl)
theorem dX2_cause_6 : decode cX2_cause 6 = .ok (.invokevirtual 63, 3) := dk_182 0 63 (dk_at dksX2_cause_0 6 rfl rfl)
theorem dX2_cause_9 : decode cX2_cause 9 = .ok (.ifCond .ne 5, 3) := dk_154 0 5 (dk_at dksX2_cause_0 9 rfl rfl)
theorem dX2_cause_12 : decode cX2_cause 12 = .ok (.iconst (-1), 1) := dk_2 (dk_at dksX2_cause_0 12 rfl rfl)
theorem dX2_cause_13 : decode cX2_cause 13 = .ok (.ireturn, 1) := dk_172 (dk_at dksX2_cause_0 13 rfl rfl)
theorem dX2_cause_14 : decode cX2_cause 14 = .ok (.aload_n 0, 1) := dk_42 (dk_at dksX2_cause_0 14 rfl rfl)
theorem dX2_cause_15 : decode cX2_cause 15 = .ok (.iload_n 1, 1) := dk_27 (dk_at dksX2_cause_0 15 rfl rfl)
theorem dX2_cause_16 : decode cX2_cause 16 = .ok (.iload_n 2, 1) := dk_28 (dk_at dksX2_cause_0 16 rfl rfl)
theorem dX2_cause_17 : decode cX2_cause 17 = .ok (.invokevirtual 164, 3) := dk_182 0 164 (dk_at dksX2_cause_0 17 rfl rfl)
theorem dX2_cause_20 : decode cX2_cause 20 = .ok (.ifCond .ne 6, 3) := dk_154 0 6 (dk_at dksX2_cause_0 20 rfl rfl)
theorem dX2_cause_23 : decode cX2_cause 23 = .ok (.bipush (-2), 2) := dk_16 254 (dk_at dksX2_cause_1 0 rfl rfl)
theorem dX2_cause_25 : decode cX2_cause 25 = .ok (.ireturn, 1) := dk_172 (dk_at dksX2_cause_1 2 rfl rfl)
theorem dX2_cause_26 : decode cX2_cause 26 = .ok (.iconst 0, 1) := dk_3 (dk_at dksX2_cause_1 3 rfl rfl)
theorem dX2_cause_27 : decode cX2_cause 27 = .ok (.istore_n 3, 1) := dk_62 (dk_at dksX2_cause_1 4 rfl rfl)
theorem dX2_cause_28 : decode cX2_cause 28 = .ok (.iload_n 3, 1) := dk_29 (dk_at dksX2_cause_1 5 rfl rfl)
theorem dX2_cause_29 : decode cX2_cause 29 = .ok (.aload_n 0, 1) := dk_42 (dk_at dksX2_cause_1 6 rfl rfl)
theorem dX2_cause_30 : decode cX2_cause 30 = .ok (.getfield 132, 3) := dk_180 0 132 (dk_at dksX2_cause_1 7 rfl rfl)
theorem dX2_cause_33 : decode cX2_cause 33 = .ok (.if_icmp .ge 35, 3) := dk_162 0 35 (dk_at dksX2_cause_1 10 rfl rfl)
theorem dX2_cause_36 : decode cX2_cause 36 = .ok (.aload_n 0, 1) := dk_42 (dk_at dksX2_cause_1 13 rfl rfl)
theorem dX2_cause_37 : decode cX2_cause 37 = .ok (.getfield 41, 3) := dk_180 0 41 (dk_at dksX2_cause_1 14 rfl rfl)
theorem dX2_cause_40 : decode cX2_cause 40 = .ok (.iload_n 3, 1) := dk_29 (dk_at dksX2_cause_1 17 rfl rfl)
theorem dX2_cause_41 : decode cX2_cause 41 = .ok (.iaload, 1) := dk_46 (dk_at dksX2_cause_1 18 rfl rfl)
theorem dX2_cause_42 : decode cX2_cause 42 = .ok (.iload_n 1, 1) := dk_27 (dk_at dksX2_cause_1 19 rfl rfl)
theorem dX2_cause_43 : decode cX2_cause 43 = .ok (.if_icmp .ne 19, 3) := dk_160 0 19 (dk_at dksX2_cause_1 20 rfl rfl)
theorem dX2_cause_46 : decode cX2_cause 46 = .ok (.aload_n 0, 1) := dk_42 (dk_at dksX2_cause_1 23 rfl rfl)
theorem dX2_cause_47 : decode cX2_cause 47 = .ok (.getfield 44, 3) := dk_180 0 44 (dk_at dksX2_cause_2 0 rfl rfl)
theorem dX2_cause_50 : decode cX2_cause 50 = .ok (.iload_n 3, 1) := dk_29 (dk_at dksX2_cause_2 3 rfl rfl)
theorem dX2_cause_51 : decode cX2_cause 51 = .ok (.iaload, 1) := dk_46 (dk_at dksX2_cause_2 4 rfl rfl)
theorem dX2_cause_52 : decode cX2_cause 52 = .ok (.iload_n 2, 1) := dk_28 (dk_at dksX2_cause_2 5 rfl rfl)
theorem dX2_cause_53 : decode cX2_cause 53 = .ok (.ishr, 1) := dk_122 (dk_at dksX2_cause_2 6 rfl rfl)
theorem dX2_cause_54 : decode cX2_cause 54 = .ok (.iconst 1, 1) := dk_4 (dk_at dksX2_cause_2 7 rfl rfl)
theorem dX2_cause_55 : decode cX2_cause 55 = .ok (.iand, 1) := dk_126 (dk_at dksX2_cause_2 8 rfl rfl)
theorem dX2_cause_56 : decode cX2_cause 56 = .ok (.iconst 1, 1) := dk_4 (dk_at dksX2_cause_2 9 rfl rfl)
theorem dX2_cause_57 : decode cX2_cause 57 = .ok (.if_icmp .ne 5, 3) := dk_160 0 5 (dk_at dksX2_cause_2 10 rfl rfl)
theorem dX2_cause_60 : decode cX2_cause 60 = .ok (.iload_n 3, 1) := dk_29 (dk_at dksX2_cause_2 13 rfl rfl)
theorem dX2_cause_61 : decode cX2_cause 61 = .ok (.ireturn, 1) := dk_172 (dk_at dksX2_cause_2 14 rfl rfl)
theorem dX2_cause_62 : decode cX2_cause 62 = .ok (.iinc 3 1, 3) := dk_132 3 1 (dk_at dksX2_cause_2 15 rfl rfl)
theorem dX2_cause_65 : decode cX2_cause 65 = .ok (.goto (-37), 3) := dk_167 255 219 (dk_at dksX2_cause_2 18 rfl rfl)
theorem dX2_cause_68 : decode cX2_cause 68 = .ok (.bipush (-5), 2) := dk_16 251 (dk_at dksX2_cause_2 21 rfl rfl)
theorem dX2_cause_70 : decode cX2_cause 70 = .ok (.ireturn, 1) := dk_172 (dk_at dksX2_cause_2 23 rfl rfl)
abbrev cX2_isState : ByteArray := prog_24_method_48_code
def yX2_isState : MethodName := ⟨RX2, "isState", "(II)Z"⟩
def dkwX2_isState_0 : List UInt8 := [28, 8, 159, 0, 12, 42, 27, 28, 182, 0, 90, 153, 0, 7, 4, 167, 0, 4, 3, 172]
abbrev dktX2_isState_0 : List UInt8 := dkwX2_isState_0 ++ []
theorem dksX2_isState_0 : cX2_isState.data.toList.drop 0 = dktX2_isState_0 := by decide +kernel
theorem dX2_isState_0 : decode cX2_isState 0 = .ok (.iload_n 2, 1) := dk_28 (dk_at dksX2_isState_0 0 rfl rfl)
theorem dX2_isState_1 : decode cX2_isState 1 = .ok (.iconst 5, 1) := dk_8 (dk_at dksX2_isState_0 1 rfl rfl)
theorem dX2_isState_2 : decode cX2_isState 2 = .ok (.if_icmp .eq 12, 3) := dk_159 0 12 (dk_at dksX2_isState_0 2 rfl rfl)
theorem dX2_isState_5 : decode cX2_isState 5 = .ok (.aload_n 0, 1) := dk_42 (dk_at dksX2_isState_0 5 rfl rfl)
theorem dX2_isState_6 : decode cX2_isState 6 = .ok (.iload_n 1, 1) := dk_27 (dk_at dksX2_isState_0 6 rfl rfl)
theorem dX2_isState_7 : decode cX2_isState 7 = .ok (.iload_n 2, 1) := dk_28 (dk_at dksX2_isState_0 7 rfl rfl)
theorem dX2_isState_8 : decode cX2_isState 8 = .ok (.invokevirtual 90, 3) := dk_182 0 90 (dk_at dksX2_isState_0 8 rfl rfl)
theorem dX2_isState_11 : decode cX2_isState 11 = .ok (.ifCond .eq 7, 3) := dk_153 0 7 (dk_at dksX2_isState_0 11 rfl rfl)
theorem dX2_isState_14 : decode cX2_isState 14 = .ok (.iconst 1, 1) := dk_4 (dk_at dksX2_isState_0 14 rfl rfl)
theorem dX2_isState_15 : decode cX2_isState 15 = .ok (.goto 4, 3) := dk_167 0 4 (dk_at dksX2_isState_0 15 rfl rfl)
theorem dX2_isState_18 : decode cX2_isState 18 = .ok (.iconst 0, 1) := dk_3 (dk_at dksX2_isState_0 18 rfl rfl)
theorem dX2_isState_19 : decode cX2_isState 19 = .ok (.ireturn, 1) := dk_172 (dk_at dksX2_isState_0 19 rfl rfl)
abbrev cX2_conflict : ByteArray := prog_24_method_50_code
def yX2_conflict : MethodName := ⟨RX2, "conflict", "()I"⟩
def dkwX2_conflict_0 : List UInt8 := [42, 182, 0, 158, 42, 180, 0, 129, 2, 160, 0, 8, 16, 251, 167, 0, 7, 42, 180, 0, 129, 172]
abbrev dktX2_conflict_0 : List UInt8 := dkwX2_conflict_0 ++ []
theorem dksX2_conflict_0 : cX2_conflict.data.toList.drop 0 = dktX2_conflict_0 := by decide +kernel
theorem dX2_conflict_0 : decode cX2_conflict 0 = .ok (.aload_n 0, 1) := dk_42 (dk_at dksX2_conflict_0 0 rfl rfl)
theorem dX2_conflict_1 : decode cX2_conflict 1 = .ok (.invokevirtual 158, 3) := dk_182 0 158 (dk_at dksX2_conflict_0 1 rfl rfl)
theorem dX2_conflict_4 : decode cX2_conflict 4 = .ok (.aload_n 0, 1) := dk_42 (dk_at dksX2_conflict_0 4 rfl rfl)
theorem dX2_conflict_5 : decode cX2_conflict 5 = .ok (.getfield 129, 3) := dk_180 0 129 (dk_at dksX2_conflict_0 5 rfl rfl)
theorem dX2_conflict_8 : decode cX2_conflict 8 = .ok (.iconst (-1), 1) := dk_2 (dk_at dksX2_conflict_0 8 rfl rfl)
theorem dX2_conflict_9 : decode cX2_conflict 9 = .ok (.if_icmp .ne 8, 3) := dk_160 0 8 (dk_at dksX2_conflict_0 9 rfl rfl)
theorem dX2_conflict_12 : decode cX2_conflict 12 = .ok (.bipush (-5), 2) := dk_16 251 (dk_at dksX2_conflict_0 12 rfl rfl)
theorem dX2_conflict_14 : decode cX2_conflict 14 = .ok (.goto 7, 3) := dk_167 0 7 (dk_at dksX2_conflict_0 14 rfl rfl)
theorem dX2_conflict_17 : decode cX2_conflict 17 = .ok (.aload_n 0, 1) := dk_42 (dk_at dksX2_conflict_0 17 rfl rfl)
theorem dX2_conflict_18 : decode cX2_conflict 18 = .ok (.getfield 129, 3) := dk_180 0 129 (dk_at dksX2_conflict_0 18 rfl rfl)
theorem dX2_conflict_21 : decode cX2_conflict 21 = .ok (.ireturn, 1) := dk_172 (dk_at dksX2_conflict_0 21 rfl rfl)
abbrev cX2_proof : ByteArray := prog_24_method_51_code
def yX2_proof : MethodName := ⟨RX2, "proof", "()J"⟩
def dkwX2_proof_0 : List UInt8 := [42, 182, 0, 158, 42, 182, 0, 167, 173]
abbrev dktX2_proof_0 : List UInt8 := dkwX2_proof_0 ++ []
theorem dksX2_proof_0 : cX2_proof.data.toList.drop 0 = dktX2_proof_0 := by decide +kernel
theorem dX2_proof_0 : decode cX2_proof 0 = .ok (.aload_n 0, 1) := dk_42 (dk_at dksX2_proof_0 0 rfl rfl)
theorem dX2_proof_1 : decode cX2_proof 1 = .ok (.invokevirtual 158, 3) := dk_182 0 158 (dk_at dksX2_proof_0 1 rfl rfl)
theorem dX2_proof_4 : decode cX2_proof 4 = .ok (.aload_n 0, 1) := dk_42 (dk_at dksX2_proof_0 4 rfl rfl)
theorem dX2_proof_5 : decode cX2_proof 5 = .ok (.invokevirtual 167, 3) := dk_182 0 167 (dk_at dksX2_proof_0 5 rfl rfl)
theorem dX2_proof_8 : decode cX2_proof 8 = .ok (.lreturn, 1) := dk_173 (dk_at dksX2_proof_0 8 rfl rfl)
abbrev cX2_proofOf : ByteArray := prog_24_method_42_code
def yX2_proofOf : MethodName := ⟨RX2, "proofOf", "()J"⟩
def dkwX2_proofOf_5 : List UInt8 := [31, 173]
abbrev dktX2_proofOf_5 : List UInt8 := dkwX2_proofOf_5 ++ []
def dkwX2_proofOf_4 : List UInt8 := [167, 255, 211, 31, 21, 4, 153, 0, 9, 10, 29, 121, 167, 0, 4, 9, 129, 64, 132, 3, 255, 167, 255, 153]
abbrev dktX2_proofOf_4 : List UInt8 := dkwX2_proofOf_4 ++ dktX2_proofOf_5
def dkwX2_proofOf_3 : List UInt8 := [154, 0, 17, 42, 21, 5, 29, 182, 0, 155, 153, 0, 7, 4, 167, 0, 4, 3, 54, 4, 132, 5, 1]
abbrev dktX2_proofOf_3 : List UInt8 := dkwX2_proofOf_3 ++ dktX2_proofOf_4
def dkwX2_proofOf_2 : List UInt8 := [21, 5, 42, 180, 0, 132, 162, 0, 42, 21, 4, 154, 0, 24, 31, 21, 5, 123, 10, 127, 10, 148]
abbrev dktX2_proofOf_2 : List UInt8 := dkwX2_proofOf_2 ++ dktX2_proofOf_3
def dkwX2_proofOf_1 : List UInt8 := [180, 0, 41, 29, 46, 42, 180, 0, 129, 160, 0, 7, 4, 167, 0, 4, 3, 54, 4, 29, 4, 96, 54, 5]
abbrev dktX2_proofOf_1 : List UInt8 := dkwX2_proofOf_1 ++ dktX2_proofOf_2
def dkwX2_proofOf_0 : List UInt8 := [9, 64, 42, 180, 0, 132, 4, 100, 62, 29, 155, 0, 105, 42, 180, 0, 129, 2, 159, 0, 97, 42]
abbrev dktX2_proofOf_0 : List UInt8 := dkwX2_proofOf_0 ++ dktX2_proofOf_1
theorem dksX2_proofOf_0 : cX2_proofOf.data.toList.drop 0 = dktX2_proofOf_0 := by decide +kernel
theorem dksX2_proofOf_1 : cX2_proofOf.data.toList.drop 22 = dktX2_proofOf_1 := dk_seg dksX2_proofOf_0 22 rfl rfl
theorem dksX2_proofOf_2 : cX2_proofOf.data.toList.drop 46 = dktX2_proofOf_2 := dk_seg dksX2_proofOf_1 24 rfl rfl
theorem dksX2_proofOf_3 : cX2_proofOf.data.toList.drop 68 = dktX2_proofOf_3 := dk_seg dksX2_proofOf_2 22 rfl rfl
theorem dksX2_proofOf_4 : cX2_proofOf.data.toList.drop 91 = dktX2_proofOf_4 := dk_seg dksX2_proofOf_3 23 rfl rfl
theorem dksX2_proofOf_5 : cX2_proofOf.data.toList.drop 115 = dktX2_proofOf_5 := dk_seg dksX2_proofOf_4 24 rfl rfl
theorem dX2_proofOf_0 : decode cX2_proofOf 0 = .ok (.lconst 0, 1) := dk_9 (dk_at dksX2_proofOf_0 0 rfl rfl)
theorem dX2_proofOf_1 : decode cX2_proofOf 1 = .ok (.lstore_n 1, 1) := dk_64 (dk_at dksX2_proofOf_0 1 rfl rfl)
theorem dX2_proofOf_2 : decode cX2_proofOf 2 = .ok (.aload_n 0, 1) := dk_42 (dk_at dksX2_proofOf_0 2 rfl rfl)
theorem dX2_proofOf_3 : decode cX2_proofOf 3 = .ok (.getfield 132, 3) := dk_180 0 132 (dk_at dksX2_proofOf_0 3 rfl rfl)
theorem dX2_proofOf_6 : decode cX2_proofOf 6 = .ok (.iconst 1, 1) := dk_4 (dk_at dksX2_proofOf_0 6 rfl rfl)
theorem dX2_proofOf_7 : decode cX2_proofOf 7 = .ok (.isub, 1) := dk_100 (dk_at dksX2_proofOf_0 7 rfl rfl)
theorem dX2_proofOf_8 : decode cX2_proofOf 8 = .ok (.istore_n 3, 1) := dk_62 (dk_at dksX2_proofOf_0 8 rfl rfl)
theorem dX2_proofOf_9 : decode cX2_proofOf 9 = .ok (.iload_n 3, 1) := dk_29 (dk_at dksX2_proofOf_0 9 rfl rfl)
theorem dX2_proofOf_10 : decode cX2_proofOf 10 = .ok (.ifCond .lt 105, 3) := dk_155 0 105 (dk_at dksX2_proofOf_0 10 rfl rfl)
theorem dX2_proofOf_13 : decode cX2_proofOf 13 = .ok (.aload_n 0, 1) := dk_42 (dk_at dksX2_proofOf_0 13 rfl rfl)
theorem dX2_proofOf_14 : decode cX2_proofOf 14 = .ok (.getfield 129, 3) := dk_180 0 129 (dk_at dksX2_proofOf_0 14 rfl rfl)
theorem dX2_proofOf_17 : decode cX2_proofOf 17 = .ok (.iconst (-1), 1) := dk_2 (dk_at dksX2_proofOf_0 17 rfl rfl)
theorem dX2_proofOf_18 : decode cX2_proofOf 18 = .ok (.if_icmp .eq 97, 3) := dk_159 0 97 (dk_at dksX2_proofOf_0 18 rfl rfl)
theorem dX2_proofOf_21 : decode cX2_proofOf 21 = .ok (.aload_n 0, 1) := dk_42 (dk_at dksX2_proofOf_0 21 rfl rfl)
theorem dX2_proofOf_22 : decode cX2_proofOf 22 = .ok (.getfield 41, 3) := dk_180 0 41 (dk_at dksX2_proofOf_1 0 rfl rfl)
theorem dX2_proofOf_25 : decode cX2_proofOf 25 = .ok (.iload_n 3, 1) := dk_29 (dk_at dksX2_proofOf_1 3 rfl rfl)
theorem dX2_proofOf_26 : decode cX2_proofOf 26 = .ok (.iaload, 1) := dk_46 (dk_at dksX2_proofOf_1 4 rfl rfl)
theorem dX2_proofOf_27 : decode cX2_proofOf 27 = .ok (.aload_n 0, 1) := dk_42 (dk_at dksX2_proofOf_1 5 rfl rfl)
theorem dX2_proofOf_28 : decode cX2_proofOf 28 = .ok (.getfield 129, 3) := dk_180 0 129 (dk_at dksX2_proofOf_1 6 rfl rfl)
theorem dX2_proofOf_31 : decode cX2_proofOf 31 = .ok (.if_icmp .ne 7, 3) := dk_160 0 7 (dk_at dksX2_proofOf_1 9 rfl rfl)
theorem dX2_proofOf_34 : decode cX2_proofOf 34 = .ok (.iconst 1, 1) := dk_4 (dk_at dksX2_proofOf_1 12 rfl rfl)
theorem dX2_proofOf_35 : decode cX2_proofOf 35 = .ok (.goto 4, 3) := dk_167 0 4 (dk_at dksX2_proofOf_1 13 rfl rfl)
theorem dX2_proofOf_38 : decode cX2_proofOf 38 = .ok (.iconst 0, 1) := dk_3 (dk_at dksX2_proofOf_1 16 rfl rfl)
theorem dX2_proofOf_39 : decode cX2_proofOf 39 = .ok (.istore 4, 2) := dk_54 4 (dk_at dksX2_proofOf_1 17 rfl rfl)
theorem dX2_proofOf_41 : decode cX2_proofOf 41 = .ok (.iload_n 3, 1) := dk_29 (dk_at dksX2_proofOf_1 19 rfl rfl)
theorem dX2_proofOf_42 : decode cX2_proofOf 42 = .ok (.iconst 1, 1) := dk_4 (dk_at dksX2_proofOf_1 20 rfl rfl)
theorem dX2_proofOf_43 : decode cX2_proofOf 43 = .ok (.iadd, 1) := dk_96 (dk_at dksX2_proofOf_1 21 rfl rfl)
theorem dX2_proofOf_44 : decode cX2_proofOf 44 = .ok (.istore 5, 2) := dk_54 5 (dk_at dksX2_proofOf_1 22 rfl rfl)
theorem dX2_proofOf_46 : decode cX2_proofOf 46 = .ok (.iload 5, 2) := dk_21 5 (dk_at dksX2_proofOf_2 0 rfl rfl)
theorem dX2_proofOf_48 : decode cX2_proofOf 48 = .ok (.aload_n 0, 1) := dk_42 (dk_at dksX2_proofOf_2 2 rfl rfl)
theorem dX2_proofOf_49 : decode cX2_proofOf 49 = .ok (.getfield 132, 3) := dk_180 0 132 (dk_at dksX2_proofOf_2 3 rfl rfl)
theorem dX2_proofOf_52 : decode cX2_proofOf 52 = .ok (.if_icmp .ge 42, 3) := dk_162 0 42 (dk_at dksX2_proofOf_2 6 rfl rfl)
theorem dX2_proofOf_55 : decode cX2_proofOf 55 = .ok (.iload 4, 2) := dk_21 4 (dk_at dksX2_proofOf_2 9 rfl rfl)
theorem dX2_proofOf_57 : decode cX2_proofOf 57 = .ok (.ifCond .ne 24, 3) := dk_154 0 24 (dk_at dksX2_proofOf_2 11 rfl rfl)
theorem dX2_proofOf_60 : decode cX2_proofOf 60 = .ok (.lload_n 1, 1) := dk_31 (dk_at dksX2_proofOf_2 14 rfl rfl)
theorem dX2_proofOf_61 : decode cX2_proofOf 61 = .ok (.iload 5, 2) := dk_21 5 (dk_at dksX2_proofOf_2 15 rfl rfl)
theorem dX2_proofOf_63 : decode cX2_proofOf 63 = .ok (.lshr, 1) := dk_123 (dk_at dksX2_proofOf_2 17 rfl rfl)
theorem dX2_proofOf_64 : decode cX2_proofOf 64 = .ok (.lconst 1, 1) := dk_10 (dk_at dksX2_proofOf_2 18 rfl rfl)
theorem dX2_proofOf_65 : decode cX2_proofOf 65 = .ok (.land, 1) := dk_127 (dk_at dksX2_proofOf_2 19 rfl rfl)
theorem dX2_proofOf_66 : decode cX2_proofOf 66 = .ok (.lconst 1, 1) := dk_10 (dk_at dksX2_proofOf_2 20 rfl rfl)
theorem dX2_proofOf_67 : decode cX2_proofOf 67 = .ok (.lcmp, 1) := dk_148 (dk_at dksX2_proofOf_2 21 rfl rfl)
theorem dX2_proofOf_68 : decode cX2_proofOf 68 = .ok (.ifCond .ne 17, 3) := dk_154 0 17 (dk_at dksX2_proofOf_3 0 rfl rfl)
theorem dX2_proofOf_71 : decode cX2_proofOf 71 = .ok (.aload_n 0, 1) := dk_42 (dk_at dksX2_proofOf_3 3 rfl rfl)
theorem dX2_proofOf_72 : decode cX2_proofOf 72 = .ok (.iload 5, 2) := dk_21 5 (dk_at dksX2_proofOf_3 4 rfl rfl)
theorem dX2_proofOf_74 : decode cX2_proofOf 74 = .ok (.iload_n 3, 1) := dk_29 (dk_at dksX2_proofOf_3 6 rfl rfl)
theorem dX2_proofOf_75 : decode cX2_proofOf 75 = .ok (.invokevirtual 155, 3) := dk_182 0 155 (dk_at dksX2_proofOf_3 7 rfl rfl)
theorem dX2_proofOf_78 : decode cX2_proofOf 78 = .ok (.ifCond .eq 7, 3) := dk_153 0 7 (dk_at dksX2_proofOf_3 10 rfl rfl)
theorem dX2_proofOf_81 : decode cX2_proofOf 81 = .ok (.iconst 1, 1) := dk_4 (dk_at dksX2_proofOf_3 13 rfl rfl)
theorem dX2_proofOf_82 : decode cX2_proofOf 82 = .ok (.goto 4, 3) := dk_167 0 4 (dk_at dksX2_proofOf_3 14 rfl rfl)
theorem dX2_proofOf_85 : decode cX2_proofOf 85 = .ok (.iconst 0, 1) := dk_3 (dk_at dksX2_proofOf_3 17 rfl rfl)
theorem dX2_proofOf_86 : decode cX2_proofOf 86 = .ok (.istore 4, 2) := dk_54 4 (dk_at dksX2_proofOf_3 18 rfl rfl)
theorem dX2_proofOf_88 : decode cX2_proofOf 88 = .ok (.iinc 5 1, 3) := dk_132 5 1 (dk_at dksX2_proofOf_3 20 rfl rfl)
theorem dX2_proofOf_91 : decode cX2_proofOf 91 = .ok (.goto (-45), 3) := dk_167 255 211 (dk_at dksX2_proofOf_4 0 rfl rfl)
theorem dX2_proofOf_94 : decode cX2_proofOf 94 = .ok (.lload_n 1, 1) := dk_31 (dk_at dksX2_proofOf_4 3 rfl rfl)
theorem dX2_proofOf_95 : decode cX2_proofOf 95 = .ok (.iload 4, 2) := dk_21 4 (dk_at dksX2_proofOf_4 4 rfl rfl)
theorem dX2_proofOf_97 : decode cX2_proofOf 97 = .ok (.ifCond .eq 9, 3) := dk_153 0 9 (dk_at dksX2_proofOf_4 6 rfl rfl)
theorem dX2_proofOf_100 : decode cX2_proofOf 100 = .ok (.lconst 1, 1) := dk_10 (dk_at dksX2_proofOf_4 9 rfl rfl)
theorem dX2_proofOf_101 : decode cX2_proofOf 101 = .ok (.iload_n 3, 1) := dk_29 (dk_at dksX2_proofOf_4 10 rfl rfl)
theorem dX2_proofOf_102 : decode cX2_proofOf 102 = .ok (.lshl, 1) := dk_121 (dk_at dksX2_proofOf_4 11 rfl rfl)
theorem dX2_proofOf_103 : decode cX2_proofOf 103 = .ok (.goto 4, 3) := dk_167 0 4 (dk_at dksX2_proofOf_4 12 rfl rfl)
theorem dX2_proofOf_106 : decode cX2_proofOf 106 = .ok (.lconst 0, 1) := dk_9 (dk_at dksX2_proofOf_4 15 rfl rfl)
theorem dX2_proofOf_107 : decode cX2_proofOf 107 = .ok (.lor, 1) := dk_129 (dk_at dksX2_proofOf_4 16 rfl rfl)
theorem dX2_proofOf_108 : decode cX2_proofOf 108 = .ok (.lstore_n 1, 1) := dk_64 (dk_at dksX2_proofOf_4 17 rfl rfl)
theorem dX2_proofOf_109 : decode cX2_proofOf 109 = .ok (.iinc 3 (-1), 3) := dk_132 3 255 (dk_at dksX2_proofOf_4 18 rfl rfl)
theorem dX2_proofOf_112 : decode cX2_proofOf 112 = .ok (.goto (-103), 3) := dk_167 255 153 (dk_at dksX2_proofOf_4 21 rfl rfl)
theorem dX2_proofOf_115 : decode cX2_proofOf 115 = .ok (.lload_n 1, 1) := dk_31 (dk_at dksX2_proofOf_5 0 rfl rfl)
theorem dX2_proofOf_116 : decode cX2_proofOf 116 = .ok (.lreturn, 1) := dk_173 (dk_at dksX2_proofOf_5 1 rfl rfl)
abbrev cX2_isProved : ByteArray := prog_24_method_52_code
def yX2_isProved : MethodName := ⟨RX2, "isProved", "()Z"⟩
def dkwX2_isProved_0 : List UInt8 := [42, 182, 0, 158, 42, 180, 0, 129, 2, 159, 0, 7, 4, 167, 0, 4, 3, 172]
abbrev dktX2_isProved_0 : List UInt8 := dkwX2_isProved_0 ++ []
theorem dksX2_isProved_0 : cX2_isProved.data.toList.drop 0 = dktX2_isProved_0 := by decide +kernel
theorem dX2_isProved_0 : decode cX2_isProved 0 = .ok (.aload_n 0, 1) := dk_42 (dk_at dksX2_isProved_0 0 rfl rfl)
theorem dX2_isProved_1 : decode cX2_isProved 1 = .ok (.invokevirtual 158, 3) := dk_182 0 158 (dk_at dksX2_isProved_0 1 rfl rfl)
theorem dX2_isProved_4 : decode cX2_isProved 4 = .ok (.aload_n 0, 1) := dk_42 (dk_at dksX2_isProved_0 4 rfl rfl)
theorem dX2_isProved_5 : decode cX2_isProved 5 = .ok (.getfield 129, 3) := dk_180 0 129 (dk_at dksX2_isProved_0 5 rfl rfl)
theorem dX2_isProved_8 : decode cX2_isProved 8 = .ok (.iconst (-1), 1) := dk_2 (dk_at dksX2_isProved_0 8 rfl rfl)
theorem dX2_isProved_9 : decode cX2_isProved 9 = .ok (.if_icmp .eq 7, 3) := dk_159 0 7 (dk_at dksX2_isProved_0 9 rfl rfl)
theorem dX2_isProved_12 : decode cX2_isProved 12 = .ok (.iconst 1, 1) := dk_4 (dk_at dksX2_isProved_0 12 rfl rfl)
theorem dX2_isProved_13 : decode cX2_isProved 13 = .ok (.goto 4, 3) := dk_167 0 4 (dk_at dksX2_isProved_0 13 rfl rfl)
theorem dX2_isProved_16 : decode cX2_isProved 16 = .ok (.iconst 0, 1) := dk_3 (dk_at dksX2_isProved_0 16 rfl rfl)
theorem dX2_isProved_17 : decode cX2_isProved 17 = .ok (.ireturn, 1) := dk_172 (dk_at dksX2_isProved_0 17 rfl rfl)
abbrev cX2_assume : ByteArray := prog_24_method_54_code
def yX2_assume : MethodName := ⟨RX2, "assume", "(II)I"⟩
def dkwX2_assume_5 : List UInt8 := [182, 0, 84, 172]
abbrev dktX2_assume_5 : List UInt8 := dkwX2_assume_5 ++ []
def dkwX2_assume_4 : List UInt8 := [96, 4, 96, 28, 79, 42, 180, 0, 7, 5, 92, 46, 4, 96, 79, 42, 182, 0, 158, 42, 42, 180, 0, 132]
abbrev dktX2_assume_4 : List UInt8 := dkwX2_assume_4 ++ dktX2_assume_5
def dkwX2_assume_3 : List UInt8 := [180, 0, 7, 5, 46, 104, 96, 27, 79, 42, 180, 0, 7, 17, 0, 225, 5, 42, 180, 0, 7, 5, 46, 104]
abbrev dktX2_assume_3 : List UInt8 := dkwX2_assume_3 ++ dktX2_assume_4
def dkwX2_assume_2 : List UInt8 := [153, 0, 11, 42, 27, 182, 0, 171, 153, 0, 6, 16, 253, 172, 42, 180, 0, 7, 17, 0, 225, 5, 42]
abbrev dktX2_assume_2 : List UInt8 := dkwX2_assume_2 ++ dktX2_assume_3
def dkwX2_assume_1 : List UInt8 := [154, 0, 6, 16, 254, 172, 42, 180, 0, 129, 2, 160, 0, 24, 42, 180, 0, 35, 27, 46, 28, 122, 4, 126]
abbrev dktX2_assume_1 : List UInt8 := dkwX2_assume_1 ++ dktX2_assume_2
def dkwX2_assume_0 : List UInt8 := [42, 182, 0, 81, 42, 182, 0, 158, 42, 27, 182, 0, 63, 154, 0, 5, 2, 172, 42, 27, 28, 182, 0, 164]
abbrev dktX2_assume_0 : List UInt8 := dkwX2_assume_0 ++ dktX2_assume_1
theorem dksX2_assume_0 : cX2_assume.data.toList.drop 0 = dktX2_assume_0 := by decide +kernel
theorem dksX2_assume_1 : cX2_assume.data.toList.drop 24 = dktX2_assume_1 := dk_seg dksX2_assume_0 24 rfl rfl
theorem dksX2_assume_2 : cX2_assume.data.toList.drop 48 = dktX2_assume_2 := dk_seg dksX2_assume_1 24 rfl rfl
theorem dksX2_assume_3 : cX2_assume.data.toList.drop 71 = dktX2_assume_3 := dk_seg dksX2_assume_2 23 rfl rfl
theorem dksX2_assume_4 : cX2_assume.data.toList.drop 95 = dktX2_assume_4 := dk_seg dksX2_assume_3 24 rfl rfl
theorem dksX2_assume_5 : cX2_assume.data.toList.drop 119 = dktX2_assume_5 := dk_seg dksX2_assume_4 24 rfl rfl
theorem dX2_assume_0 : decode cX2_assume 0 = .ok (.aload_n 0, 1) := dk_42 (dk_at dksX2_assume_0 0 rfl rfl)
theorem dX2_assume_1 : decode cX2_assume 1 = .ok (.invokevirtual 81, 3) := dk_182 0 81 (dk_at dksX2_assume_0 1 rfl rfl)
theorem dX2_assume_4 : decode cX2_assume 4 = .ok (.aload_n 0, 1) := dk_42 (dk_at dksX2_assume_0 4 rfl rfl)
theorem dX2_assume_5 : decode cX2_assume 5 = .ok (.invokevirtual 158, 3) := dk_182 0 158 (dk_at dksX2_assume_0 5 rfl rfl)
theorem dX2_assume_8 : decode cX2_assume 8 = .ok (.aload_n 0, 1) := dk_42 (dk_at dksX2_assume_0 8 rfl rfl)
theorem dX2_assume_9 : decode cX2_assume 9 = .ok (.iload_n 1, 1) := dk_27 (dk_at dksX2_assume_0 9 rfl rfl)
theorem dX2_assume_10 : decode cX2_assume 10 = .ok (.invokevirtual 63, 3) := dk_182 0 63 (dk_at dksX2_assume_0 10 rfl rfl)
theorem dX2_assume_13 : decode cX2_assume 13 = .ok (.ifCond .ne 5, 3) := dk_154 0 5 (dk_at dksX2_assume_0 13 rfl rfl)
theorem dX2_assume_16 : decode cX2_assume 16 = .ok (.iconst (-1), 1) := dk_2 (dk_at dksX2_assume_0 16 rfl rfl)
theorem dX2_assume_17 : decode cX2_assume 17 = .ok (.ireturn, 1) := dk_172 (dk_at dksX2_assume_0 17 rfl rfl)
theorem dX2_assume_18 : decode cX2_assume 18 = .ok (.aload_n 0, 1) := dk_42 (dk_at dksX2_assume_0 18 rfl rfl)
theorem dX2_assume_19 : decode cX2_assume 19 = .ok (.iload_n 1, 1) := dk_27 (dk_at dksX2_assume_0 19 rfl rfl)
theorem dX2_assume_20 : decode cX2_assume 20 = .ok (.iload_n 2, 1) := dk_28 (dk_at dksX2_assume_0 20 rfl rfl)
theorem dX2_assume_21 : decode cX2_assume 21 = .ok (.invokevirtual 164, 3) := dk_182 0 164 (dk_at dksX2_assume_0 21 rfl rfl)
theorem dX2_assume_24 : decode cX2_assume 24 = .ok (.ifCond .ne 6, 3) := dk_154 0 6 (dk_at dksX2_assume_1 0 rfl rfl)
theorem dX2_assume_27 : decode cX2_assume 27 = .ok (.bipush (-2), 2) := dk_16 254 (dk_at dksX2_assume_1 3 rfl rfl)
theorem dX2_assume_29 : decode cX2_assume 29 = .ok (.ireturn, 1) := dk_172 (dk_at dksX2_assume_1 5 rfl rfl)
theorem dX2_assume_30 : decode cX2_assume 30 = .ok (.aload_n 0, 1) := dk_42 (dk_at dksX2_assume_1 6 rfl rfl)
theorem dX2_assume_31 : decode cX2_assume 31 = .ok (.getfield 129, 3) := dk_180 0 129 (dk_at dksX2_assume_1 7 rfl rfl)
theorem dX2_assume_34 : decode cX2_assume 34 = .ok (.iconst (-1), 1) := dk_2 (dk_at dksX2_assume_1 10 rfl rfl)
theorem dX2_assume_35 : decode cX2_assume 35 = .ok (.if_icmp .ne 24, 3) := dk_160 0 24 (dk_at dksX2_assume_1 11 rfl rfl)
theorem dX2_assume_38 : decode cX2_assume 38 = .ok (.aload_n 0, 1) := dk_42 (dk_at dksX2_assume_1 14 rfl rfl)
theorem dX2_assume_39 : decode cX2_assume 39 = .ok (.getfield 35, 3) := dk_180 0 35 (dk_at dksX2_assume_1 15 rfl rfl)
theorem dX2_assume_42 : decode cX2_assume 42 = .ok (.iload_n 1, 1) := dk_27 (dk_at dksX2_assume_1 18 rfl rfl)
theorem dX2_assume_43 : decode cX2_assume 43 = .ok (.iaload, 1) := dk_46 (dk_at dksX2_assume_1 19 rfl rfl)
theorem dX2_assume_44 : decode cX2_assume 44 = .ok (.iload_n 2, 1) := dk_28 (dk_at dksX2_assume_1 20 rfl rfl)
theorem dX2_assume_45 : decode cX2_assume 45 = .ok (.ishr, 1) := dk_122 (dk_at dksX2_assume_1 21 rfl rfl)
theorem dX2_assume_46 : decode cX2_assume 46 = .ok (.iconst 1, 1) := dk_4 (dk_at dksX2_assume_1 22 rfl rfl)
theorem dX2_assume_47 : decode cX2_assume 47 = .ok (.iand, 1) := dk_126 (dk_at dksX2_assume_1 23 rfl rfl)
theorem dX2_assume_48 : decode cX2_assume 48 = .ok (.ifCond .eq 11, 3) := dk_153 0 11 (dk_at dksX2_assume_2 0 rfl rfl)
theorem dX2_assume_51 : decode cX2_assume 51 = .ok (.aload_n 0, 1) := dk_42 (dk_at dksX2_assume_2 3 rfl rfl)
theorem dX2_assume_52 : decode cX2_assume 52 = .ok (.iload_n 1, 1) := dk_27 (dk_at dksX2_assume_2 4 rfl rfl)
theorem dX2_assume_53 : decode cX2_assume 53 = .ok (.invokevirtual 171, 3) := dk_182 0 171 (dk_at dksX2_assume_2 5 rfl rfl)
theorem dX2_assume_56 : decode cX2_assume 56 = .ok (.ifCond .eq 6, 3) := dk_153 0 6 (dk_at dksX2_assume_2 8 rfl rfl)
theorem dX2_assume_59 : decode cX2_assume 59 = .ok (.bipush (-3), 2) := dk_16 253 (dk_at dksX2_assume_2 11 rfl rfl)
theorem dX2_assume_61 : decode cX2_assume 61 = .ok (.ireturn, 1) := dk_172 (dk_at dksX2_assume_2 13 rfl rfl)
theorem dX2_assume_62 : decode cX2_assume 62 = .ok (.aload_n 0, 1) := dk_42 (dk_at dksX2_assume_2 14 rfl rfl)
theorem dX2_assume_63 : decode cX2_assume 63 = .ok (.getfield 7, 3) := dk_180 0 7 (dk_at dksX2_assume_2 15 rfl rfl)
theorem dX2_assume_66 : decode cX2_assume 66 = .ok (.sipush 225, 3) := dk_17 0 225 (dk_at dksX2_assume_2 18 rfl rfl)
theorem dX2_assume_69 : decode cX2_assume 69 = .ok (.iconst 2, 1) := dk_5 (dk_at dksX2_assume_2 21 rfl rfl)
theorem dX2_assume_70 : decode cX2_assume 70 = .ok (.aload_n 0, 1) := dk_42 (dk_at dksX2_assume_2 22 rfl rfl)
theorem dX2_assume_71 : decode cX2_assume 71 = .ok (.getfield 7, 3) := dk_180 0 7 (dk_at dksX2_assume_3 0 rfl rfl)
theorem dX2_assume_74 : decode cX2_assume 74 = .ok (.iconst 2, 1) := dk_5 (dk_at dksX2_assume_3 3 rfl rfl)
theorem dX2_assume_75 : decode cX2_assume 75 = .ok (.iaload, 1) := dk_46 (dk_at dksX2_assume_3 4 rfl rfl)
theorem dX2_assume_76 : decode cX2_assume 76 = .ok (.imul, 1) := dk_104 (dk_at dksX2_assume_3 5 rfl rfl)
theorem dX2_assume_77 : decode cX2_assume 77 = .ok (.iadd, 1) := dk_96 (dk_at dksX2_assume_3 6 rfl rfl)
theorem dX2_assume_78 : decode cX2_assume 78 = .ok (.iload_n 1, 1) := dk_27 (dk_at dksX2_assume_3 7 rfl rfl)
theorem dX2_assume_79 : decode cX2_assume 79 = .ok (.iastore, 1) := dk_79 (dk_at dksX2_assume_3 8 rfl rfl)
theorem dX2_assume_80 : decode cX2_assume 80 = .ok (.aload_n 0, 1) := dk_42 (dk_at dksX2_assume_3 9 rfl rfl)
theorem dX2_assume_81 : decode cX2_assume 81 = .ok (.getfield 7, 3) := dk_180 0 7 (dk_at dksX2_assume_3 10 rfl rfl)
theorem dX2_assume_84 : decode cX2_assume 84 = .ok (.sipush 225, 3) := dk_17 0 225 (dk_at dksX2_assume_3 13 rfl rfl)
theorem dX2_assume_87 : decode cX2_assume 87 = .ok (.iconst 2, 1) := dk_5 (dk_at dksX2_assume_3 16 rfl rfl)
theorem dX2_assume_88 : decode cX2_assume 88 = .ok (.aload_n 0, 1) := dk_42 (dk_at dksX2_assume_3 17 rfl rfl)
theorem dX2_assume_89 : decode cX2_assume 89 = .ok (.getfield 7, 3) := dk_180 0 7 (dk_at dksX2_assume_3 18 rfl rfl)
theorem dX2_assume_92 : decode cX2_assume 92 = .ok (.iconst 2, 1) := dk_5 (dk_at dksX2_assume_3 21 rfl rfl)
theorem dX2_assume_93 : decode cX2_assume 93 = .ok (.iaload, 1) := dk_46 (dk_at dksX2_assume_3 22 rfl rfl)
theorem dX2_assume_94 : decode cX2_assume 94 = .ok (.imul, 1) := dk_104 (dk_at dksX2_assume_3 23 rfl rfl)
theorem dX2_assume_95 : decode cX2_assume 95 = .ok (.iadd, 1) := dk_96 (dk_at dksX2_assume_4 0 rfl rfl)
theorem dX2_assume_96 : decode cX2_assume 96 = .ok (.iconst 1, 1) := dk_4 (dk_at dksX2_assume_4 1 rfl rfl)
theorem dX2_assume_97 : decode cX2_assume 97 = .ok (.iadd, 1) := dk_96 (dk_at dksX2_assume_4 2 rfl rfl)
theorem dX2_assume_98 : decode cX2_assume 98 = .ok (.iload_n 2, 1) := dk_28 (dk_at dksX2_assume_4 3 rfl rfl)
theorem dX2_assume_99 : decode cX2_assume 99 = .ok (.iastore, 1) := dk_79 (dk_at dksX2_assume_4 4 rfl rfl)
theorem dX2_assume_100 : decode cX2_assume 100 = .ok (.aload_n 0, 1) := dk_42 (dk_at dksX2_assume_4 5 rfl rfl)
theorem dX2_assume_101 : decode cX2_assume 101 = .ok (.getfield 7, 3) := dk_180 0 7 (dk_at dksX2_assume_4 6 rfl rfl)
theorem dX2_assume_104 : decode cX2_assume 104 = .ok (.iconst 2, 1) := dk_5 (dk_at dksX2_assume_4 9 rfl rfl)
theorem dX2_assume_105 : decode cX2_assume 105 = .ok (.dup2, 1) := dk_92 (dk_at dksX2_assume_4 10 rfl rfl)
theorem dX2_assume_106 : decode cX2_assume 106 = .ok (.iaload, 1) := dk_46 (dk_at dksX2_assume_4 11 rfl rfl)
theorem dX2_assume_107 : decode cX2_assume 107 = .ok (.iconst 1, 1) := dk_4 (dk_at dksX2_assume_4 12 rfl rfl)
theorem dX2_assume_108 : decode cX2_assume 108 = .ok (.iadd, 1) := dk_96 (dk_at dksX2_assume_4 13 rfl rfl)
theorem dX2_assume_109 : decode cX2_assume 109 = .ok (.iastore, 1) := dk_79 (dk_at dksX2_assume_4 14 rfl rfl)
theorem dX2_assume_110 : decode cX2_assume 110 = .ok (.aload_n 0, 1) := dk_42 (dk_at dksX2_assume_4 15 rfl rfl)
theorem dX2_assume_111 : decode cX2_assume 111 = .ok (.invokevirtual 158, 3) := dk_182 0 158 (dk_at dksX2_assume_4 16 rfl rfl)
theorem dX2_assume_114 : decode cX2_assume 114 = .ok (.aload_n 0, 1) := dk_42 (dk_at dksX2_assume_4 19 rfl rfl)
theorem dX2_assume_115 : decode cX2_assume 115 = .ok (.aload_n 0, 1) := dk_42 (dk_at dksX2_assume_4 20 rfl rfl)
theorem dX2_assume_116 : decode cX2_assume 116 = .ok (.getfield 132, 3) := dk_180 0 132 (dk_at dksX2_assume_4 21 rfl rfl)
theorem dX2_assume_119 : decode cX2_assume 119 = .ok (.invokevirtual 84, 3) := dk_182 0 84 (dk_at dksX2_assume_5 0 rfl rfl)
theorem dX2_assume_122 : decode cX2_assume 122 = .ok (.ireturn, 1) := dk_172 (dk_at dksX2_assume_5 3 rfl rfl)
abbrev cX2_isAssumed : ByteArray := prog_24_method_53_code
def yX2_isAssumed : MethodName := ⟨RX2, "isAssumed", "(I)Z"⟩
def dkwX2_isAssumed_1 : List UInt8 := [27, 160, 0, 5, 4, 172, 132, 2, 1, 167, 255, 225, 3, 172]
abbrev dktX2_isAssumed_1 : List UInt8 := dkwX2_isAssumed_1 ++ []
def dkwX2_isAssumed_0 : List UInt8 := [3, 61, 28, 42, 180, 0, 7, 5, 46, 162, 0, 27, 42, 180, 0, 7, 17, 0, 225, 5, 28, 104, 96, 46]
abbrev dktX2_isAssumed_0 : List UInt8 := dkwX2_isAssumed_0 ++ dktX2_isAssumed_1
theorem dksX2_isAssumed_0 : cX2_isAssumed.data.toList.drop 0 = dktX2_isAssumed_0 := by decide +kernel
theorem dksX2_isAssumed_1 : cX2_isAssumed.data.toList.drop 24 = dktX2_isAssumed_1 := dk_seg dksX2_isAssumed_0 24 rfl rfl
theorem dX2_isAssumed_0 : decode cX2_isAssumed 0 = .ok (.iconst 0, 1) := dk_3 (dk_at dksX2_isAssumed_0 0 rfl rfl)
theorem dX2_isAssumed_1 : decode cX2_isAssumed 1 = .ok (.istore_n 2, 1) := dk_61 (dk_at dksX2_isAssumed_0 1 rfl rfl)
theorem dX2_isAssumed_2 : decode cX2_isAssumed 2 = .ok (.iload_n 2, 1) := dk_28 (dk_at dksX2_isAssumed_0 2 rfl rfl)
theorem dX2_isAssumed_3 : decode cX2_isAssumed 3 = .ok (.aload_n 0, 1) := dk_42 (dk_at dksX2_isAssumed_0 3 rfl rfl)
theorem dX2_isAssumed_4 : decode cX2_isAssumed 4 = .ok (.getfield 7, 3) := dk_180 0 7 (dk_at dksX2_isAssumed_0 4 rfl rfl)
theorem dX2_isAssumed_7 : decode cX2_isAssumed 7 = .ok (.iconst 2, 1) := dk_5 (dk_at dksX2_isAssumed_0 7 rfl rfl)
theorem dX2_isAssumed_8 : decode cX2_isAssumed 8 = .ok (.iaload, 1) := dk_46 (dk_at dksX2_isAssumed_0 8 rfl rfl)
theorem dX2_isAssumed_9 : decode cX2_isAssumed 9 = .ok (.if_icmp .ge 27, 3) := dk_162 0 27 (dk_at dksX2_isAssumed_0 9 rfl rfl)
theorem dX2_isAssumed_12 : decode cX2_isAssumed 12 = .ok (.aload_n 0, 1) := dk_42 (dk_at dksX2_isAssumed_0 12 rfl rfl)
theorem dX2_isAssumed_13 : decode cX2_isAssumed 13 = .ok (.getfield 7, 3) := dk_180 0 7 (dk_at dksX2_isAssumed_0 13 rfl rfl)
theorem dX2_isAssumed_16 : decode cX2_isAssumed 16 = .ok (.sipush 225, 3) := dk_17 0 225 (dk_at dksX2_isAssumed_0 16 rfl rfl)
theorem dX2_isAssumed_19 : decode cX2_isAssumed 19 = .ok (.iconst 2, 1) := dk_5 (dk_at dksX2_isAssumed_0 19 rfl rfl)
theorem dX2_isAssumed_20 : decode cX2_isAssumed 20 = .ok (.iload_n 2, 1) := dk_28 (dk_at dksX2_isAssumed_0 20 rfl rfl)
theorem dX2_isAssumed_21 : decode cX2_isAssumed 21 = .ok (.imul, 1) := dk_104 (dk_at dksX2_isAssumed_0 21 rfl rfl)
theorem dX2_isAssumed_22 : decode cX2_isAssumed 22 = .ok (.iadd, 1) := dk_96 (dk_at dksX2_isAssumed_0 22 rfl rfl)
theorem dX2_isAssumed_23 : decode cX2_isAssumed 23 = .ok (.iaload, 1) := dk_46 (dk_at dksX2_isAssumed_0 23 rfl rfl)
theorem dX2_isAssumed_24 : decode cX2_isAssumed 24 = .ok (.iload_n 1, 1) := dk_27 (dk_at dksX2_isAssumed_1 0 rfl rfl)
theorem dX2_isAssumed_25 : decode cX2_isAssumed 25 = .ok (.if_icmp .ne 5, 3) := dk_160 0 5 (dk_at dksX2_isAssumed_1 1 rfl rfl)
theorem dX2_isAssumed_28 : decode cX2_isAssumed 28 = .ok (.iconst 1, 1) := dk_4 (dk_at dksX2_isAssumed_1 4 rfl rfl)
theorem dX2_isAssumed_29 : decode cX2_isAssumed 29 = .ok (.ireturn, 1) := dk_172 (dk_at dksX2_isAssumed_1 5 rfl rfl)
theorem dX2_isAssumed_30 : decode cX2_isAssumed 30 = .ok (.iinc 2 1, 3) := dk_132 2 1 (dk_at dksX2_isAssumed_1 6 rfl rfl)
theorem dX2_isAssumed_33 : decode cX2_isAssumed 33 = .ok (.goto (-31), 3) := dk_167 255 225 (dk_at dksX2_isAssumed_1 9 rfl rfl)
theorem dX2_isAssumed_36 : decode cX2_isAssumed 36 = .ok (.iconst 0, 1) := dk_3 (dk_at dksX2_isAssumed_1 12 rfl rfl)
theorem dX2_isAssumed_37 : decode cX2_isAssumed 37 = .ok (.ireturn, 1) := dk_172 (dk_at dksX2_isAssumed_1 13 rfl rfl)
abbrev cX2_retract : ByteArray := prog_24_method_55_code
def yX2_retract : MethodName := ⟨RX2, "retract", "()I"⟩
def dkwX2_retract_1 : List UInt8 := [100, 79, 42, 42, 180, 0, 7, 5, 46, 182, 0, 84, 172]
abbrev dktX2_retract_1 : List UInt8 := dkwX2_retract_1 ++ []
def dkwX2_retract_0 : List UInt8 := [42, 182, 0, 81, 42, 180, 0, 7, 5, 46, 154, 0, 6, 16, 253, 172, 42, 180, 0, 7, 5, 92, 46, 4]
abbrev dktX2_retract_0 : List UInt8 := dkwX2_retract_0 ++ dktX2_retract_1
theorem dksX2_retract_0 : cX2_retract.data.toList.drop 0 = dktX2_retract_0 := by decide +kernel
theorem dksX2_retract_1 : cX2_retract.data.toList.drop 24 = dktX2_retract_1 := dk_seg dksX2_retract_0 24 rfl rfl
theorem dX2_retract_0 : decode cX2_retract 0 = .ok (.aload_n 0, 1) := dk_42 (dk_at dksX2_retract_0 0 rfl rfl)
theorem dX2_retract_1 : decode cX2_retract 1 = .ok (.invokevirtual 81, 3) := dk_182 0 81 (dk_at dksX2_retract_0 1 rfl rfl)
theorem dX2_retract_4 : decode cX2_retract 4 = .ok (.aload_n 0, 1) := dk_42 (dk_at dksX2_retract_0 4 rfl rfl)
theorem dX2_retract_5 : decode cX2_retract 5 = .ok (.getfield 7, 3) := dk_180 0 7 (dk_at dksX2_retract_0 5 rfl rfl)
theorem dX2_retract_8 : decode cX2_retract 8 = .ok (.iconst 2, 1) := dk_5 (dk_at dksX2_retract_0 8 rfl rfl)
theorem dX2_retract_9 : decode cX2_retract 9 = .ok (.iaload, 1) := dk_46 (dk_at dksX2_retract_0 9 rfl rfl)
theorem dX2_retract_10 : decode cX2_retract 10 = .ok (.ifCond .ne 6, 3) := dk_154 0 6 (dk_at dksX2_retract_0 10 rfl rfl)
theorem dX2_retract_13 : decode cX2_retract 13 = .ok (.bipush (-3), 2) := dk_16 253 (dk_at dksX2_retract_0 13 rfl rfl)
theorem dX2_retract_15 : decode cX2_retract 15 = .ok (.ireturn, 1) := dk_172 (dk_at dksX2_retract_0 15 rfl rfl)
theorem dX2_retract_16 : decode cX2_retract 16 = .ok (.aload_n 0, 1) := dk_42 (dk_at dksX2_retract_0 16 rfl rfl)
theorem dX2_retract_17 : decode cX2_retract 17 = .ok (.getfield 7, 3) := dk_180 0 7 (dk_at dksX2_retract_0 17 rfl rfl)
theorem dX2_retract_20 : decode cX2_retract 20 = .ok (.iconst 2, 1) := dk_5 (dk_at dksX2_retract_0 20 rfl rfl)
theorem dX2_retract_21 : decode cX2_retract 21 = .ok (.dup2, 1) := dk_92 (dk_at dksX2_retract_0 21 rfl rfl)
theorem dX2_retract_22 : decode cX2_retract 22 = .ok (.iaload, 1) := dk_46 (dk_at dksX2_retract_0 22 rfl rfl)
theorem dX2_retract_23 : decode cX2_retract 23 = .ok (.iconst 1, 1) := dk_4 (dk_at dksX2_retract_0 23 rfl rfl)
theorem dX2_retract_24 : decode cX2_retract 24 = .ok (.isub, 1) := dk_100 (dk_at dksX2_retract_1 0 rfl rfl)
theorem dX2_retract_25 : decode cX2_retract 25 = .ok (.iastore, 1) := dk_79 (dk_at dksX2_retract_1 1 rfl rfl)
theorem dX2_retract_26 : decode cX2_retract 26 = .ok (.aload_n 0, 1) := dk_42 (dk_at dksX2_retract_1 2 rfl rfl)
theorem dX2_retract_27 : decode cX2_retract 27 = .ok (.aload_n 0, 1) := dk_42 (dk_at dksX2_retract_1 3 rfl rfl)
theorem dX2_retract_28 : decode cX2_retract 28 = .ok (.getfield 7, 3) := dk_180 0 7 (dk_at dksX2_retract_1 4 rfl rfl)
theorem dX2_retract_31 : decode cX2_retract 31 = .ok (.iconst 2, 1) := dk_5 (dk_at dksX2_retract_1 7 rfl rfl)
theorem dX2_retract_32 : decode cX2_retract 32 = .ok (.iaload, 1) := dk_46 (dk_at dksX2_retract_1 8 rfl rfl)
theorem dX2_retract_33 : decode cX2_retract 33 = .ok (.invokevirtual 84, 3) := dk_182 0 84 (dk_at dksX2_retract_1 9 rfl rfl)
theorem dX2_retract_36 : decode cX2_retract 36 = .ok (.ireturn, 1) := dk_172 (dk_at dksX2_retract_1 12 rfl rfl)
abbrev cX2_assumption : ByteArray := prog_24_method_56_code
def yX2_assumption : MethodName := ⟨RX2, "assumption", "(IZ)I"⟩
def dkwX2_assumption_1 : List UInt8 := [27, 104, 96, 28, 153, 0, 7, 4, 167, 0, 4, 3, 96, 46, 167, 0, 4, 2, 172]
abbrev dktX2_assumption_1 : List UInt8 := dkwX2_assumption_1 ++ []
def dkwX2_assumption_0 : List UInt8 := [27, 3, 42, 180, 0, 7, 5, 46, 4, 100, 184, 0, 59, 153, 0, 28, 42, 180, 0, 7, 17, 0, 225, 5]
abbrev dktX2_assumption_0 : List UInt8 := dkwX2_assumption_0 ++ dktX2_assumption_1
theorem dksX2_assumption_0 : cX2_assumption.data.toList.drop 0 = dktX2_assumption_0 := by decide +kernel
theorem dksX2_assumption_1 : cX2_assumption.data.toList.drop 24 = dktX2_assumption_1 := dk_seg dksX2_assumption_0 24 rfl rfl
theorem dX2_assumption_0 : decode cX2_assumption 0 = .ok (.iload_n 1, 1) := dk_27 (dk_at dksX2_assumption_0 0 rfl rfl)
theorem dX2_assumption_1 : decode cX2_assumption 1 = .ok (.iconst 0, 1) := dk_3 (dk_at dksX2_assumption_0 1 rfl rfl)
theorem dX2_assumption_2 : decode cX2_assumption 2 = .ok (.aload_n 0, 1) := dk_42 (dk_at dksX2_assumption_0 2 rfl rfl)
theorem dX2_assumption_3 : decode cX2_assumption 3 = .ok (.getfield 7, 3) := dk_180 0 7 (dk_at dksX2_assumption_0 3 rfl rfl)
theorem dX2_assumption_6 : decode cX2_assumption 6 = .ok (.iconst 2, 1) := dk_5 (dk_at dksX2_assumption_0 6 rfl rfl)
theorem dX2_assumption_7 : decode cX2_assumption 7 = .ok (.iaload, 1) := dk_46 (dk_at dksX2_assumption_0 7 rfl rfl)
theorem dX2_assumption_8 : decode cX2_assumption 8 = .ok (.iconst 1, 1) := dk_4 (dk_at dksX2_assumption_0 8 rfl rfl)
theorem dX2_assumption_9 : decode cX2_assumption 9 = .ok (.isub, 1) := dk_100 (dk_at dksX2_assumption_0 9 rfl rfl)
theorem dX2_assumption_10 : decode cX2_assumption 10 = .ok (.invokestatic 59, 3) := dk_184 0 59 (dk_at dksX2_assumption_0 10 rfl rfl)
theorem dX2_assumption_13 : decode cX2_assumption 13 = .ok (.ifCond .eq 28, 3) := dk_153 0 28 (dk_at dksX2_assumption_0 13 rfl rfl)
theorem dX2_assumption_16 : decode cX2_assumption 16 = .ok (.aload_n 0, 1) := dk_42 (dk_at dksX2_assumption_0 16 rfl rfl)
theorem dX2_assumption_17 : decode cX2_assumption 17 = .ok (.getfield 7, 3) := dk_180 0 7 (dk_at dksX2_assumption_0 17 rfl rfl)
theorem dX2_assumption_20 : decode cX2_assumption 20 = .ok (.sipush 225, 3) := dk_17 0 225 (dk_at dksX2_assumption_0 20 rfl rfl)
theorem dX2_assumption_23 : decode cX2_assumption 23 = .ok (.iconst 2, 1) := dk_5 (dk_at dksX2_assumption_0 23 rfl rfl)
theorem dX2_assumption_24 : decode cX2_assumption 24 = .ok (.iload_n 1, 1) := dk_27 (dk_at dksX2_assumption_1 0 rfl rfl)
theorem dX2_assumption_25 : decode cX2_assumption 25 = .ok (.imul, 1) := dk_104 (dk_at dksX2_assumption_1 1 rfl rfl)
theorem dX2_assumption_26 : decode cX2_assumption 26 = .ok (.iadd, 1) := dk_96 (dk_at dksX2_assumption_1 2 rfl rfl)
theorem dX2_assumption_27 : decode cX2_assumption 27 = .ok (.iload_n 2, 1) := dk_28 (dk_at dksX2_assumption_1 3 rfl rfl)
theorem dX2_assumption_28 : decode cX2_assumption 28 = .ok (.ifCond .eq 7, 3) := dk_153 0 7 (dk_at dksX2_assumption_1 4 rfl rfl)
theorem dX2_assumption_31 : decode cX2_assumption 31 = .ok (.iconst 1, 1) := dk_4 (dk_at dksX2_assumption_1 7 rfl rfl)
theorem dX2_assumption_32 : decode cX2_assumption 32 = .ok (.goto 4, 3) := dk_167 0 4 (dk_at dksX2_assumption_1 8 rfl rfl)
theorem dX2_assumption_35 : decode cX2_assumption 35 = .ok (.iconst 0, 1) := dk_3 (dk_at dksX2_assumption_1 11 rfl rfl)
theorem dX2_assumption_36 : decode cX2_assumption 36 = .ok (.iadd, 1) := dk_96 (dk_at dksX2_assumption_1 12 rfl rfl)
theorem dX2_assumption_37 : decode cX2_assumption 37 = .ok (.iaload, 1) := dk_46 (dk_at dksX2_assumption_1 13 rfl rfl)
theorem dX2_assumption_38 : decode cX2_assumption 38 = .ok (.goto 4, 3) := dk_167 0 4 (dk_at dksX2_assumption_1 14 rfl rfl)
theorem dX2_assumption_41 : decode cX2_assumption 41 = .ok (.iconst (-1), 1) := dk_2 (dk_at dksX2_assumption_1 17 rfl rfl)
theorem dX2_assumption_42 : decode cX2_assumption 42 = .ok (.ireturn, 1) := dk_172 (dk_at dksX2_assumption_1 18 rfl rfl)
abbrev cX2_blamed : ByteArray := prog_24_method_58_code
def yX2_blamed : MethodName := ⟨RX2, "blamed", "()I"⟩
def dkwX2_blamed_0 : List UInt8 := [42, 182, 0, 158, 42, 180, 0, 129, 2, 160, 0, 8, 16, 253, 167, 0, 7, 42, 182, 0, 174, 172]
abbrev dktX2_blamed_0 : List UInt8 := dkwX2_blamed_0 ++ []
theorem dksX2_blamed_0 : cX2_blamed.data.toList.drop 0 = dktX2_blamed_0 := by decide +kernel
theorem dX2_blamed_0 : decode cX2_blamed 0 = .ok (.aload_n 0, 1) := dk_42 (dk_at dksX2_blamed_0 0 rfl rfl)
theorem dX2_blamed_1 : decode cX2_blamed 1 = .ok (.invokevirtual 158, 3) := dk_182 0 158 (dk_at dksX2_blamed_0 1 rfl rfl)
theorem dX2_blamed_4 : decode cX2_blamed 4 = .ok (.aload_n 0, 1) := dk_42 (dk_at dksX2_blamed_0 4 rfl rfl)
theorem dX2_blamed_5 : decode cX2_blamed 5 = .ok (.getfield 129, 3) := dk_180 0 129 (dk_at dksX2_blamed_0 5 rfl rfl)
theorem dX2_blamed_8 : decode cX2_blamed 8 = .ok (.iconst (-1), 1) := dk_2 (dk_at dksX2_blamed_0 8 rfl rfl)
theorem dX2_blamed_9 : decode cX2_blamed 9 = .ok (.if_icmp .ne 8, 3) := dk_160 0 8 (dk_at dksX2_blamed_0 9 rfl rfl)
theorem dX2_blamed_12 : decode cX2_blamed 12 = .ok (.bipush (-3), 2) := dk_16 253 (dk_at dksX2_blamed_0 12 rfl rfl)
theorem dX2_blamed_14 : decode cX2_blamed 14 = .ok (.goto 7, 3) := dk_167 0 7 (dk_at dksX2_blamed_0 14 rfl rfl)
theorem dX2_blamed_17 : decode cX2_blamed 17 = .ok (.aload_n 0, 1) := dk_42 (dk_at dksX2_blamed_0 17 rfl rfl)
theorem dX2_blamed_18 : decode cX2_blamed 18 = .ok (.invokevirtual 174, 3) := dk_182 0 174 (dk_at dksX2_blamed_0 18 rfl rfl)
theorem dX2_blamed_21 : decode cX2_blamed 21 = .ok (.ireturn, 1) := dk_172 (dk_at dksX2_blamed_0 21 rfl rfl)
abbrev cX2_blamedOf : ByteArray := prog_24_method_57_code
def yX2_blamedOf : MethodName := ⟨RX2, "blamedOf", "()I"⟩
def dkwX2_blamedOf_2 : List UInt8 := [4, 28, 120, 2, 130, 126, 60, 132, 2, 1, 167, 255, 211, 27, 172]
abbrev dktX2_blamedOf_2 : List UInt8 := dkwX2_blamedOf_2 ++ []
def dkwX2_blamedOf_1 : List UInt8 := [27, 4, 28, 120, 2, 130, 126, 182, 0, 152, 27, 42, 180, 0, 129, 2, 160, 0, 8, 16, 63, 167, 0, 8]
abbrev dktX2_blamedOf_1 : List UInt8 := dkwX2_blamedOf_1 ++ dktX2_blamedOf_2
def dkwX2_blamedOf_0 : List UInt8 := [4, 42, 180, 0, 7, 5, 46, 120, 4, 100, 60, 3, 61, 28, 42, 180, 0, 7, 5, 46, 162, 0, 41, 42]
abbrev dktX2_blamedOf_0 : List UInt8 := dkwX2_blamedOf_0 ++ dktX2_blamedOf_1
theorem dksX2_blamedOf_0 : cX2_blamedOf.data.toList.drop 0 = dktX2_blamedOf_0 := by decide +kernel
theorem dksX2_blamedOf_1 : cX2_blamedOf.data.toList.drop 24 = dktX2_blamedOf_1 := dk_seg dksX2_blamedOf_0 24 rfl rfl
theorem dksX2_blamedOf_2 : cX2_blamedOf.data.toList.drop 48 = dktX2_blamedOf_2 := dk_seg dksX2_blamedOf_1 24 rfl rfl
theorem dX2_blamedOf_0 : decode cX2_blamedOf 0 = .ok (.iconst 1, 1) := dk_4 (dk_at dksX2_blamedOf_0 0 rfl rfl)
theorem dX2_blamedOf_1 : decode cX2_blamedOf 1 = .ok (.aload_n 0, 1) := dk_42 (dk_at dksX2_blamedOf_0 1 rfl rfl)
theorem dX2_blamedOf_2 : decode cX2_blamedOf 2 = .ok (.getfield 7, 3) := dk_180 0 7 (dk_at dksX2_blamedOf_0 2 rfl rfl)
theorem dX2_blamedOf_5 : decode cX2_blamedOf 5 = .ok (.iconst 2, 1) := dk_5 (dk_at dksX2_blamedOf_0 5 rfl rfl)
theorem dX2_blamedOf_6 : decode cX2_blamedOf 6 = .ok (.iaload, 1) := dk_46 (dk_at dksX2_blamedOf_0 6 rfl rfl)
theorem dX2_blamedOf_7 : decode cX2_blamedOf 7 = .ok (.ishl, 1) := dk_120 (dk_at dksX2_blamedOf_0 7 rfl rfl)
theorem dX2_blamedOf_8 : decode cX2_blamedOf 8 = .ok (.iconst 1, 1) := dk_4 (dk_at dksX2_blamedOf_0 8 rfl rfl)
theorem dX2_blamedOf_9 : decode cX2_blamedOf 9 = .ok (.isub, 1) := dk_100 (dk_at dksX2_blamedOf_0 9 rfl rfl)
theorem dX2_blamedOf_10 : decode cX2_blamedOf 10 = .ok (.istore_n 1, 1) := dk_60 (dk_at dksX2_blamedOf_0 10 rfl rfl)
theorem dX2_blamedOf_11 : decode cX2_blamedOf 11 = .ok (.iconst 0, 1) := dk_3 (dk_at dksX2_blamedOf_0 11 rfl rfl)
theorem dX2_blamedOf_12 : decode cX2_blamedOf 12 = .ok (.istore_n 2, 1) := dk_61 (dk_at dksX2_blamedOf_0 12 rfl rfl)
theorem dX2_blamedOf_13 : decode cX2_blamedOf 13 = .ok (.iload_n 2, 1) := dk_28 (dk_at dksX2_blamedOf_0 13 rfl rfl)
theorem dX2_blamedOf_14 : decode cX2_blamedOf 14 = .ok (.aload_n 0, 1) := dk_42 (dk_at dksX2_blamedOf_0 14 rfl rfl)
theorem dX2_blamedOf_15 : decode cX2_blamedOf 15 = .ok (.getfield 7, 3) := dk_180 0 7 (dk_at dksX2_blamedOf_0 15 rfl rfl)
theorem dX2_blamedOf_18 : decode cX2_blamedOf 18 = .ok (.iconst 2, 1) := dk_5 (dk_at dksX2_blamedOf_0 18 rfl rfl)
theorem dX2_blamedOf_19 : decode cX2_blamedOf 19 = .ok (.iaload, 1) := dk_46 (dk_at dksX2_blamedOf_0 19 rfl rfl)
theorem dX2_blamedOf_20 : decode cX2_blamedOf 20 = .ok (.if_icmp .ge 41, 3) := dk_162 0 41 (dk_at dksX2_blamedOf_0 20 rfl rfl)
theorem dX2_blamedOf_23 : decode cX2_blamedOf 23 = .ok (.aload_n 0, 1) := dk_42 (dk_at dksX2_blamedOf_0 23 rfl rfl)
theorem dX2_blamedOf_24 : decode cX2_blamedOf 24 = .ok (.iload_n 1, 1) := dk_27 (dk_at dksX2_blamedOf_1 0 rfl rfl)
theorem dX2_blamedOf_25 : decode cX2_blamedOf 25 = .ok (.iconst 1, 1) := dk_4 (dk_at dksX2_blamedOf_1 1 rfl rfl)
theorem dX2_blamedOf_26 : decode cX2_blamedOf 26 = .ok (.iload_n 2, 1) := dk_28 (dk_at dksX2_blamedOf_1 2 rfl rfl)
theorem dX2_blamedOf_27 : decode cX2_blamedOf 27 = .ok (.ishl, 1) := dk_120 (dk_at dksX2_blamedOf_1 3 rfl rfl)
theorem dX2_blamedOf_28 : decode cX2_blamedOf 28 = .ok (.iconst (-1), 1) := dk_2 (dk_at dksX2_blamedOf_1 4 rfl rfl)
theorem dX2_blamedOf_29 : decode cX2_blamedOf 29 = .ok (.ixor, 1) := dk_130 (dk_at dksX2_blamedOf_1 5 rfl rfl)
theorem dX2_blamedOf_30 : decode cX2_blamedOf 30 = .ok (.iand, 1) := dk_126 (dk_at dksX2_blamedOf_1 6 rfl rfl)
theorem dX2_blamedOf_31 : decode cX2_blamedOf 31 = .ok (.invokevirtual 152, 3) := dk_182 0 152 (dk_at dksX2_blamedOf_1 7 rfl rfl)
theorem dX2_blamedOf_34 : decode cX2_blamedOf 34 = .ok (.iload_n 1, 1) := dk_27 (dk_at dksX2_blamedOf_1 10 rfl rfl)
theorem dX2_blamedOf_35 : decode cX2_blamedOf 35 = .ok (.aload_n 0, 1) := dk_42 (dk_at dksX2_blamedOf_1 11 rfl rfl)
theorem dX2_blamedOf_36 : decode cX2_blamedOf 36 = .ok (.getfield 129, 3) := dk_180 0 129 (dk_at dksX2_blamedOf_1 12 rfl rfl)
theorem dX2_blamedOf_39 : decode cX2_blamedOf 39 = .ok (.iconst (-1), 1) := dk_2 (dk_at dksX2_blamedOf_1 15 rfl rfl)
theorem dX2_blamedOf_40 : decode cX2_blamedOf 40 = .ok (.if_icmp .ne 8, 3) := dk_160 0 8 (dk_at dksX2_blamedOf_1 16 rfl rfl)
theorem dX2_blamedOf_43 : decode cX2_blamedOf 43 = .ok (.bipush 63, 2) := dk_16 63 (dk_at dksX2_blamedOf_1 19 rfl rfl)
theorem dX2_blamedOf_45 : decode cX2_blamedOf 45 = .ok (.goto 8, 3) := dk_167 0 8 (dk_at dksX2_blamedOf_1 21 rfl rfl)
theorem dX2_blamedOf_48 : decode cX2_blamedOf 48 = .ok (.iconst 1, 1) := dk_4 (dk_at dksX2_blamedOf_2 0 rfl rfl)
theorem dX2_blamedOf_49 : decode cX2_blamedOf 49 = .ok (.iload_n 2, 1) := dk_28 (dk_at dksX2_blamedOf_2 1 rfl rfl)
theorem dX2_blamedOf_50 : decode cX2_blamedOf 50 = .ok (.ishl, 1) := dk_120 (dk_at dksX2_blamedOf_2 2 rfl rfl)
theorem dX2_blamedOf_51 : decode cX2_blamedOf 51 = .ok (.iconst (-1), 1) := dk_2 (dk_at dksX2_blamedOf_2 3 rfl rfl)
theorem dX2_blamedOf_52 : decode cX2_blamedOf 52 = .ok (.ixor, 1) := dk_130 (dk_at dksX2_blamedOf_2 4 rfl rfl)
theorem dX2_blamedOf_53 : decode cX2_blamedOf 53 = .ok (.iand, 1) := dk_126 (dk_at dksX2_blamedOf_2 5 rfl rfl)
theorem dX2_blamedOf_54 : decode cX2_blamedOf 54 = .ok (.istore_n 1, 1) := dk_60 (dk_at dksX2_blamedOf_2 6 rfl rfl)
theorem dX2_blamedOf_55 : decode cX2_blamedOf 55 = .ok (.iinc 2 1, 3) := dk_132 2 1 (dk_at dksX2_blamedOf_2 7 rfl rfl)
theorem dX2_blamedOf_58 : decode cX2_blamedOf 58 = .ok (.goto (-45), 3) := dk_167 255 211 (dk_at dksX2_blamedOf_2 10 rfl rfl)
theorem dX2_blamedOf_61 : decode cX2_blamedOf 61 = .ok (.iload_n 1, 1) := dk_27 (dk_at dksX2_blamedOf_2 13 rfl rfl)
theorem dX2_blamedOf_62 : decode cX2_blamedOf 62 = .ok (.ireturn, 1) := dk_172 (dk_at dksX2_blamedOf_2 14 rfl rfl)
abbrev cX2_learn : ByteArray := prog_24_method_59_code
def yX2_learn : MethodName := ⟨RX2, "learn", "()I"⟩
def dkwX2_learn_7 : List UInt8 := [29, 79, 42, 29, 182, 0, 84, 172]
abbrev dktX2_learn_7 : List UInt8 := dkwX2_learn_7 ++ []
def dkwX2_learn_6 : List UInt8 := [54, 4, 132, 5, 1, 167, 255, 165, 42, 6, 3, 3, 3, 3, 28, 182, 0, 106, 87, 42, 180, 0, 7, 5]
abbrev dktX2_learn_6 : List UInt8 := dkwX2_learn_6 ++ dktX2_learn_7
def dkwX2_learn_5 : List UInt8 := [16, 7, 104, 54, 6, 132, 7, 1, 167, 255, 228, 28, 21, 6, 96, 61, 21, 4, 62, 21, 5, 4, 96]
abbrev dktX2_learn_5 : List UInt8 := dkwX2_learn_5 ++ dktX2_learn_6
def dkwX2_learn_4 : List UInt8 := [3, 54, 7, 21, 7, 42, 180, 0, 7, 17, 0, 225, 5, 21, 5, 104, 96, 46, 162, 0, 16, 21, 6]
abbrev dktX2_learn_4 : List UInt8 := dkwX2_learn_4 ++ dktX2_learn_5
def dkwX2_learn_3 : List UInt8 := [126, 4, 160, 0, 70, 42, 180, 0, 7, 17, 0, 225, 5, 21, 5, 104, 96, 4, 96, 46, 4, 96, 54, 6]
abbrev dktX2_learn_3 : List UInt8 := dkwX2_learn_3 ++ dktX2_learn_4
def dkwX2_learn_2 : List UInt8 := [3, 62, 3, 54, 4, 3, 54, 5, 21, 5, 42, 180, 0, 7, 5, 46, 162, 0, 86, 27, 21, 5, 122, 4]
abbrev dktX2_learn_2 : List UInt8 := dkwX2_learn_2 ++ dktX2_learn_3
def dkwX2_learn_1 : List UInt8 := [60, 27, 154, 0, 6, 16, 253, 172, 42, 180, 0, 7, 4, 46, 16, 30, 160, 0, 6, 16, 252, 172, 3, 61]
abbrev dktX2_learn_1 : List UInt8 := dkwX2_learn_1 ++ dktX2_learn_2
def dkwX2_learn_0 : List UInt8 := [42, 182, 0, 81, 42, 182, 0, 158, 42, 180, 0, 129, 2, 160, 0, 7, 3, 167, 0, 7, 42, 182, 0, 174]
abbrev dktX2_learn_0 : List UInt8 := dkwX2_learn_0 ++ dktX2_learn_1
theorem dksX2_learn_0 : cX2_learn.data.toList.drop 0 = dktX2_learn_0 := by decide +kernel
theorem dksX2_learn_1 : cX2_learn.data.toList.drop 24 = dktX2_learn_1 := dk_seg dksX2_learn_0 24 rfl rfl
theorem dksX2_learn_2 : cX2_learn.data.toList.drop 48 = dktX2_learn_2 := dk_seg dksX2_learn_1 24 rfl rfl
theorem dksX2_learn_3 : cX2_learn.data.toList.drop 72 = dktX2_learn_3 := dk_seg dksX2_learn_2 24 rfl rfl
theorem dksX2_learn_4 : cX2_learn.data.toList.drop 96 = dktX2_learn_4 := dk_seg dksX2_learn_3 24 rfl rfl
theorem dksX2_learn_5 : cX2_learn.data.toList.drop 119 = dktX2_learn_5 := dk_seg dksX2_learn_4 23 rfl rfl
theorem dksX2_learn_6 : cX2_learn.data.toList.drop 142 = dktX2_learn_6 := dk_seg dksX2_learn_5 23 rfl rfl
theorem dksX2_learn_7 : cX2_learn.data.toList.drop 166 = dktX2_learn_7 := dk_seg dksX2_learn_6 24 rfl rfl
theorem dX2_learn_0 : decode cX2_learn 0 = .ok (.aload_n 0, 1) := dk_42 (dk_at dksX2_learn_0 0 rfl rfl)
theorem dX2_learn_1 : decode cX2_learn 1 = .ok (.invokevirtual 81, 3) := dk_182 0 81 (dk_at dksX2_learn_0 1 rfl rfl)
theorem dX2_learn_4 : decode cX2_learn 4 = .ok (.aload_n 0, 1) := dk_42 (dk_at dksX2_learn_0 4 rfl rfl)
theorem dX2_learn_5 : decode cX2_learn 5 = .ok (.invokevirtual 158, 3) := dk_182 0 158 (dk_at dksX2_learn_0 5 rfl rfl)
theorem dX2_learn_8 : decode cX2_learn 8 = .ok (.aload_n 0, 1) := dk_42 (dk_at dksX2_learn_0 8 rfl rfl)
theorem dX2_learn_9 : decode cX2_learn 9 = .ok (.getfield 129, 3) := dk_180 0 129 (dk_at dksX2_learn_0 9 rfl rfl)
theorem dX2_learn_12 : decode cX2_learn 12 = .ok (.iconst (-1), 1) := dk_2 (dk_at dksX2_learn_0 12 rfl rfl)
theorem dX2_learn_13 : decode cX2_learn 13 = .ok (.if_icmp .ne 7, 3) := dk_160 0 7 (dk_at dksX2_learn_0 13 rfl rfl)
theorem dX2_learn_16 : decode cX2_learn 16 = .ok (.iconst 0, 1) := dk_3 (dk_at dksX2_learn_0 16 rfl rfl)
theorem dX2_learn_17 : decode cX2_learn 17 = .ok (.goto 7, 3) := dk_167 0 7 (dk_at dksX2_learn_0 17 rfl rfl)
theorem dX2_learn_20 : decode cX2_learn 20 = .ok (.aload_n 0, 1) := dk_42 (dk_at dksX2_learn_0 20 rfl rfl)
theorem dX2_learn_21 : decode cX2_learn 21 = .ok (.invokevirtual 174, 3) := dk_182 0 174 (dk_at dksX2_learn_0 21 rfl rfl)
theorem dX2_learn_24 : decode cX2_learn 24 = .ok (.istore_n 1, 1) := dk_60 (dk_at dksX2_learn_1 0 rfl rfl)
theorem dX2_learn_25 : decode cX2_learn 25 = .ok (.iload_n 1, 1) := dk_27 (dk_at dksX2_learn_1 1 rfl rfl)
theorem dX2_learn_26 : decode cX2_learn 26 = .ok (.ifCond .ne 6, 3) := dk_154 0 6 (dk_at dksX2_learn_1 2 rfl rfl)
theorem dX2_learn_29 : decode cX2_learn 29 = .ok (.bipush (-3), 2) := dk_16 253 (dk_at dksX2_learn_1 5 rfl rfl)
theorem dX2_learn_31 : decode cX2_learn 31 = .ok (.ireturn, 1) := dk_172 (dk_at dksX2_learn_1 7 rfl rfl)
theorem dX2_learn_32 : decode cX2_learn 32 = .ok (.aload_n 0, 1) := dk_42 (dk_at dksX2_learn_1 8 rfl rfl)
theorem dX2_learn_33 : decode cX2_learn 33 = .ok (.getfield 7, 3) := dk_180 0 7 (dk_at dksX2_learn_1 9 rfl rfl)
theorem dX2_learn_36 : decode cX2_learn 36 = .ok (.iconst 1, 1) := dk_4 (dk_at dksX2_learn_1 12 rfl rfl)
theorem dX2_learn_37 : decode cX2_learn 37 = .ok (.iaload, 1) := dk_46 (dk_at dksX2_learn_1 13 rfl rfl)
theorem dX2_learn_38 : decode cX2_learn 38 = .ok (.bipush 30, 2) := dk_16 30 (dk_at dksX2_learn_1 14 rfl rfl)
theorem dX2_learn_40 : decode cX2_learn 40 = .ok (.if_icmp .ne 6, 3) := dk_160 0 6 (dk_at dksX2_learn_1 16 rfl rfl)
theorem dX2_learn_43 : decode cX2_learn 43 = .ok (.bipush (-4), 2) := dk_16 252 (dk_at dksX2_learn_1 19 rfl rfl)
theorem dX2_learn_45 : decode cX2_learn 45 = .ok (.ireturn, 1) := dk_172 (dk_at dksX2_learn_1 21 rfl rfl)
theorem dX2_learn_46 : decode cX2_learn 46 = .ok (.iconst 0, 1) := dk_3 (dk_at dksX2_learn_1 22 rfl rfl)
theorem dX2_learn_47 : decode cX2_learn 47 = .ok (.istore_n 2, 1) := dk_61 (dk_at dksX2_learn_1 23 rfl rfl)
theorem dX2_learn_48 : decode cX2_learn 48 = .ok (.iconst 0, 1) := dk_3 (dk_at dksX2_learn_2 0 rfl rfl)
theorem dX2_learn_49 : decode cX2_learn 49 = .ok (.istore_n 3, 1) := dk_62 (dk_at dksX2_learn_2 1 rfl rfl)
theorem dX2_learn_50 : decode cX2_learn 50 = .ok (.iconst 0, 1) := dk_3 (dk_at dksX2_learn_2 2 rfl rfl)
theorem dX2_learn_51 : decode cX2_learn 51 = .ok (.istore 4, 2) := dk_54 4 (dk_at dksX2_learn_2 3 rfl rfl)
theorem dX2_learn_53 : decode cX2_learn 53 = .ok (.iconst 0, 1) := dk_3 (dk_at dksX2_learn_2 5 rfl rfl)
theorem dX2_learn_54 : decode cX2_learn 54 = .ok (.istore 5, 2) := dk_54 5 (dk_at dksX2_learn_2 6 rfl rfl)
theorem dX2_learn_56 : decode cX2_learn 56 = .ok (.iload 5, 2) := dk_21 5 (dk_at dksX2_learn_2 8 rfl rfl)
theorem dX2_learn_58 : decode cX2_learn 58 = .ok (.aload_n 0, 1) := dk_42 (dk_at dksX2_learn_2 10 rfl rfl)
theorem dX2_learn_59 : decode cX2_learn 59 = .ok (.getfield 7, 3) := dk_180 0 7 (dk_at dksX2_learn_2 11 rfl rfl)
theorem dX2_learn_62 : decode cX2_learn 62 = .ok (.iconst 2, 1) := dk_5 (dk_at dksX2_learn_2 14 rfl rfl)
theorem dX2_learn_63 : decode cX2_learn 63 = .ok (.iaload, 1) := dk_46 (dk_at dksX2_learn_2 15 rfl rfl)
theorem dX2_learn_64 : decode cX2_learn 64 = .ok (.if_icmp .ge 86, 3) := dk_162 0 86 (dk_at dksX2_learn_2 16 rfl rfl)
theorem dX2_learn_67 : decode cX2_learn 67 = .ok (.iload_n 1, 1) := dk_27 (dk_at dksX2_learn_2 19 rfl rfl)
theorem dX2_learn_68 : decode cX2_learn 68 = .ok (.iload 5, 2) := dk_21 5 (dk_at dksX2_learn_2 20 rfl rfl)
theorem dX2_learn_70 : decode cX2_learn 70 = .ok (.ishr, 1) := dk_122 (dk_at dksX2_learn_2 22 rfl rfl)
theorem dX2_learn_71 : decode cX2_learn 71 = .ok (.iconst 1, 1) := dk_4 (dk_at dksX2_learn_2 23 rfl rfl)
theorem dX2_learn_72 : decode cX2_learn 72 = .ok (.iand, 1) := dk_126 (dk_at dksX2_learn_3 0 rfl rfl)
theorem dX2_learn_73 : decode cX2_learn 73 = .ok (.iconst 1, 1) := dk_4 (dk_at dksX2_learn_3 1 rfl rfl)
theorem dX2_learn_74 : decode cX2_learn 74 = .ok (.if_icmp .ne 70, 3) := dk_160 0 70 (dk_at dksX2_learn_3 2 rfl rfl)
theorem dX2_learn_77 : decode cX2_learn 77 = .ok (.aload_n 0, 1) := dk_42 (dk_at dksX2_learn_3 5 rfl rfl)
theorem dX2_learn_78 : decode cX2_learn 78 = .ok (.getfield 7, 3) := dk_180 0 7 (dk_at dksX2_learn_3 6 rfl rfl)
theorem dX2_learn_81 : decode cX2_learn 81 = .ok (.sipush 225, 3) := dk_17 0 225 (dk_at dksX2_learn_3 9 rfl rfl)
theorem dX2_learn_84 : decode cX2_learn 84 = .ok (.iconst 2, 1) := dk_5 (dk_at dksX2_learn_3 12 rfl rfl)
theorem dX2_learn_85 : decode cX2_learn 85 = .ok (.iload 5, 2) := dk_21 5 (dk_at dksX2_learn_3 13 rfl rfl)
theorem dX2_learn_87 : decode cX2_learn 87 = .ok (.imul, 1) := dk_104 (dk_at dksX2_learn_3 15 rfl rfl)
theorem dX2_learn_88 : decode cX2_learn 88 = .ok (.iadd, 1) := dk_96 (dk_at dksX2_learn_3 16 rfl rfl)
theorem dX2_learn_89 : decode cX2_learn 89 = .ok (.iconst 1, 1) := dk_4 (dk_at dksX2_learn_3 17 rfl rfl)
theorem dX2_learn_90 : decode cX2_learn 90 = .ok (.iadd, 1) := dk_96 (dk_at dksX2_learn_3 18 rfl rfl)
theorem dX2_learn_91 : decode cX2_learn 91 = .ok (.iaload, 1) := dk_46 (dk_at dksX2_learn_3 19 rfl rfl)
theorem dX2_learn_92 : decode cX2_learn 92 = .ok (.iconst 1, 1) := dk_4 (dk_at dksX2_learn_3 20 rfl rfl)
theorem dX2_learn_93 : decode cX2_learn 93 = .ok (.iadd, 1) := dk_96 (dk_at dksX2_learn_3 21 rfl rfl)
theorem dX2_learn_94 : decode cX2_learn 94 = .ok (.istore 6, 2) := dk_54 6 (dk_at dksX2_learn_3 22 rfl rfl)
theorem dX2_learn_96 : decode cX2_learn 96 = .ok (.iconst 0, 1) := dk_3 (dk_at dksX2_learn_4 0 rfl rfl)
theorem dX2_learn_97 : decode cX2_learn 97 = .ok (.istore 7, 2) := dk_54 7 (dk_at dksX2_learn_4 1 rfl rfl)
theorem dX2_learn_99 : decode cX2_learn 99 = .ok (.iload 7, 2) := dk_21 7 (dk_at dksX2_learn_4 3 rfl rfl)
theorem dX2_learn_101 : decode cX2_learn 101 = .ok (.aload_n 0, 1) := dk_42 (dk_at dksX2_learn_4 5 rfl rfl)
theorem dX2_learn_102 : decode cX2_learn 102 = .ok (.getfield 7, 3) := dk_180 0 7 (dk_at dksX2_learn_4 6 rfl rfl)
theorem dX2_learn_105 : decode cX2_learn 105 = .ok (.sipush 225, 3) := dk_17 0 225 (dk_at dksX2_learn_4 9 rfl rfl)
theorem dX2_learn_108 : decode cX2_learn 108 = .ok (.iconst 2, 1) := dk_5 (dk_at dksX2_learn_4 12 rfl rfl)
theorem dX2_learn_109 : decode cX2_learn 109 = .ok (.iload 5, 2) := dk_21 5 (dk_at dksX2_learn_4 13 rfl rfl)
theorem dX2_learn_111 : decode cX2_learn 111 = .ok (.imul, 1) := dk_104 (dk_at dksX2_learn_4 15 rfl rfl)
theorem dX2_learn_112 : decode cX2_learn 112 = .ok (.iadd, 1) := dk_96 (dk_at dksX2_learn_4 16 rfl rfl)
theorem dX2_learn_113 : decode cX2_learn 113 = .ok (.iaload, 1) := dk_46 (dk_at dksX2_learn_4 17 rfl rfl)
theorem dX2_learn_114 : decode cX2_learn 114 = .ok (.if_icmp .ge 16, 3) := dk_162 0 16 (dk_at dksX2_learn_4 18 rfl rfl)
theorem dX2_learn_117 : decode cX2_learn 117 = .ok (.iload 6, 2) := dk_21 6 (dk_at dksX2_learn_4 21 rfl rfl)
theorem dX2_learn_119 : decode cX2_learn 119 = .ok (.bipush 7, 2) := dk_16 7 (dk_at dksX2_learn_5 0 rfl rfl)
theorem dX2_learn_121 : decode cX2_learn 121 = .ok (.imul, 1) := dk_104 (dk_at dksX2_learn_5 2 rfl rfl)
theorem dX2_learn_122 : decode cX2_learn 122 = .ok (.istore 6, 2) := dk_54 6 (dk_at dksX2_learn_5 3 rfl rfl)
theorem dX2_learn_124 : decode cX2_learn 124 = .ok (.iinc 7 1, 3) := dk_132 7 1 (dk_at dksX2_learn_5 5 rfl rfl)
theorem dX2_learn_127 : decode cX2_learn 127 = .ok (.goto (-28), 3) := dk_167 255 228 (dk_at dksX2_learn_5 8 rfl rfl)
theorem dX2_learn_130 : decode cX2_learn 130 = .ok (.iload_n 2, 1) := dk_28 (dk_at dksX2_learn_5 11 rfl rfl)
theorem dX2_learn_131 : decode cX2_learn 131 = .ok (.iload 6, 2) := dk_21 6 (dk_at dksX2_learn_5 12 rfl rfl)
theorem dX2_learn_133 : decode cX2_learn 133 = .ok (.iadd, 1) := dk_96 (dk_at dksX2_learn_5 14 rfl rfl)
theorem dX2_learn_134 : decode cX2_learn 134 = .ok (.istore_n 2, 1) := dk_61 (dk_at dksX2_learn_5 15 rfl rfl)
theorem dX2_learn_135 : decode cX2_learn 135 = .ok (.iload 4, 2) := dk_21 4 (dk_at dksX2_learn_5 16 rfl rfl)
theorem dX2_learn_137 : decode cX2_learn 137 = .ok (.istore_n 3, 1) := dk_62 (dk_at dksX2_learn_5 18 rfl rfl)
theorem dX2_learn_138 : decode cX2_learn 138 = .ok (.iload 5, 2) := dk_21 5 (dk_at dksX2_learn_5 19 rfl rfl)
theorem dX2_learn_140 : decode cX2_learn 140 = .ok (.iconst 1, 1) := dk_4 (dk_at dksX2_learn_5 21 rfl rfl)
theorem dX2_learn_141 : decode cX2_learn 141 = .ok (.iadd, 1) := dk_96 (dk_at dksX2_learn_5 22 rfl rfl)
theorem dX2_learn_142 : decode cX2_learn 142 = .ok (.istore 4, 2) := dk_54 4 (dk_at dksX2_learn_6 0 rfl rfl)
theorem dX2_learn_144 : decode cX2_learn 144 = .ok (.iinc 5 1, 3) := dk_132 5 1 (dk_at dksX2_learn_6 2 rfl rfl)
theorem dX2_learn_147 : decode cX2_learn 147 = .ok (.goto (-91), 3) := dk_167 255 165 (dk_at dksX2_learn_6 5 rfl rfl)
theorem dX2_learn_150 : decode cX2_learn 150 = .ok (.aload_n 0, 1) := dk_42 (dk_at dksX2_learn_6 8 rfl rfl)
theorem dX2_learn_151 : decode cX2_learn 151 = .ok (.iconst 3, 1) := dk_6 (dk_at dksX2_learn_6 9 rfl rfl)
theorem dX2_learn_152 : decode cX2_learn 152 = .ok (.iconst 0, 1) := dk_3 (dk_at dksX2_learn_6 10 rfl rfl)
theorem dX2_learn_153 : decode cX2_learn 153 = .ok (.iconst 0, 1) := dk_3 (dk_at dksX2_learn_6 11 rfl rfl)
theorem dX2_learn_154 : decode cX2_learn 154 = .ok (.iconst 0, 1) := dk_3 (dk_at dksX2_learn_6 12 rfl rfl)
theorem dX2_learn_155 : decode cX2_learn 155 = .ok (.iconst 0, 1) := dk_3 (dk_at dksX2_learn_6 13 rfl rfl)
theorem dX2_learn_156 : decode cX2_learn 156 = .ok (.iload_n 2, 1) := dk_28 (dk_at dksX2_learn_6 14 rfl rfl)
theorem dX2_learn_157 : decode cX2_learn 157 = .ok (.invokevirtual 106, 3) := dk_182 0 106 (dk_at dksX2_learn_6 15 rfl rfl)
theorem dX2_learn_160 : decode cX2_learn 160 = .ok (.pop, 1) := dk_87 (dk_at dksX2_learn_6 18 rfl rfl)
theorem dX2_learn_161 : decode cX2_learn 161 = .ok (.aload_n 0, 1) := dk_42 (dk_at dksX2_learn_6 19 rfl rfl)
theorem dX2_learn_162 : decode cX2_learn 162 = .ok (.getfield 7, 3) := dk_180 0 7 (dk_at dksX2_learn_6 20 rfl rfl)
theorem dX2_learn_165 : decode cX2_learn 165 = .ok (.iconst 2, 1) := dk_5 (dk_at dksX2_learn_6 23 rfl rfl)
theorem dX2_learn_166 : decode cX2_learn 166 = .ok (.iload_n 3, 1) := dk_29 (dk_at dksX2_learn_7 0 rfl rfl)
theorem dX2_learn_167 : decode cX2_learn 167 = .ok (.iastore, 1) := dk_79 (dk_at dksX2_learn_7 1 rfl rfl)
theorem dX2_learn_168 : decode cX2_learn 168 = .ok (.aload_n 0, 1) := dk_42 (dk_at dksX2_learn_7 2 rfl rfl)
theorem dX2_learn_169 : decode cX2_learn 169 = .ok (.iload_n 3, 1) := dk_29 (dk_at dksX2_learn_7 3 rfl rfl)
theorem dX2_learn_170 : decode cX2_learn 170 = .ok (.invokevirtual 84, 3) := dk_182 0 84 (dk_at dksX2_learn_7 4 rfl rfl)
theorem dX2_learn_173 : decode cX2_learn 173 = .ok (.ireturn, 1) := dk_172 (dk_at dksX2_learn_7 7 rfl rfl)
abbrev cX2_solutions : ByteArray := prog_24_method_68_code
def yX2_solutions : MethodName := ⟨RX2, "solutions", "()I"⟩
def dkwX2_solutions_0 : List UInt8 := [42, 18, 202, 18, 203, 182, 0, 204, 172]
abbrev dktX2_solutions_0 : List UInt8 := dkwX2_solutions_0 ++ []
theorem dksX2_solutions_0 : cX2_solutions.data.toList.drop 0 = dktX2_solutions_0 := by decide +kernel
theorem dX2_solutions_0 : decode cX2_solutions 0 = .ok (.aload_n 0, 1) := dk_42 (dk_at dksX2_solutions_0 0 rfl rfl)
theorem dX2_solutions_1 : decode cX2_solutions 1 = .ok (.ldc 202, 2) := dk_18 202 (dk_at dksX2_solutions_0 1 rfl rfl)
theorem dX2_solutions_3 : decode cX2_solutions 3 = .ok (.ldc 203, 2) := dk_18 203 (dk_at dksX2_solutions_0 3 rfl rfl)
theorem dX2_solutions_5 : decode cX2_solutions 5 = .ok (.invokevirtual 204, 3) := dk_182 0 204 (dk_at dksX2_solutions_0 5 rfl rfl)
theorem dX2_solutions_8 : decode cX2_solutions 8 = .ok (.ireturn, 1) := dk_172 (dk_at dksX2_solutions_0 8 rfl rfl)
abbrev cX2_solutionsBy : ByteArray := prog_24_method_67_code
def yX2_solutionsBy : MethodName := ⟨RX2, "solutionsBy", "(II)I"⟩
def dkwX2_solutionsBy_1 : List UInt8 := [167, 255, 240, 42, 3, 27, 28, 182, 0, 199, 42, 180, 0, 190, 172]
abbrev dktX2_solutionsBy_1 : List UInt8 := dkwX2_solutionsBy_1 ++ []
def dkwX2_solutionsBy_0 : List UInt8 := [42, 3, 181, 0, 190, 3, 62, 29, 16, 6, 162, 0, 16, 42, 180, 0, 53, 29, 3, 79, 132, 3, 1]
abbrev dktX2_solutionsBy_0 : List UInt8 := dkwX2_solutionsBy_0 ++ dktX2_solutionsBy_1
theorem dksX2_solutionsBy_0 : cX2_solutionsBy.data.toList.drop 0 = dktX2_solutionsBy_0 := by decide +kernel
theorem dksX2_solutionsBy_1 : cX2_solutionsBy.data.toList.drop 23 = dktX2_solutionsBy_1 := dk_seg dksX2_solutionsBy_0 23 rfl rfl
theorem dX2_solutionsBy_0 : decode cX2_solutionsBy 0 = .ok (.aload_n 0, 1) := dk_42 (dk_at dksX2_solutionsBy_0 0 rfl rfl)
theorem dX2_solutionsBy_1 : decode cX2_solutionsBy 1 = .ok (.iconst 0, 1) := dk_3 (dk_at dksX2_solutionsBy_0 1 rfl rfl)
theorem dX2_solutionsBy_2 : decode cX2_solutionsBy 2 = .ok (.putfield 190, 3) := dk_181 0 190 (dk_at dksX2_solutionsBy_0 2 rfl rfl)
theorem dX2_solutionsBy_5 : decode cX2_solutionsBy 5 = .ok (.iconst 0, 1) := dk_3 (dk_at dksX2_solutionsBy_0 5 rfl rfl)
theorem dX2_solutionsBy_6 : decode cX2_solutionsBy 6 = .ok (.istore_n 3, 1) := dk_62 (dk_at dksX2_solutionsBy_0 6 rfl rfl)
theorem dX2_solutionsBy_7 : decode cX2_solutionsBy 7 = .ok (.iload_n 3, 1) := dk_29 (dk_at dksX2_solutionsBy_0 7 rfl rfl)
theorem dX2_solutionsBy_8 : decode cX2_solutionsBy 8 = .ok (.bipush 6, 2) := dk_16 6 (dk_at dksX2_solutionsBy_0 8 rfl rfl)
theorem dX2_solutionsBy_10 : decode cX2_solutionsBy 10 = .ok (.if_icmp .ge 16, 3) := dk_162 0 16 (dk_at dksX2_solutionsBy_0 10 rfl rfl)
theorem dX2_solutionsBy_13 : decode cX2_solutionsBy 13 = .ok (.aload_n 0, 1) := dk_42 (dk_at dksX2_solutionsBy_0 13 rfl rfl)
theorem dX2_solutionsBy_14 : decode cX2_solutionsBy 14 = .ok (.getfield 53, 3) := dk_180 0 53 (dk_at dksX2_solutionsBy_0 14 rfl rfl)
theorem dX2_solutionsBy_17 : decode cX2_solutionsBy 17 = .ok (.iload_n 3, 1) := dk_29 (dk_at dksX2_solutionsBy_0 17 rfl rfl)
theorem dX2_solutionsBy_18 : decode cX2_solutionsBy 18 = .ok (.iconst 0, 1) := dk_3 (dk_at dksX2_solutionsBy_0 18 rfl rfl)
theorem dX2_solutionsBy_19 : decode cX2_solutionsBy 19 = .ok (.iastore, 1) := dk_79 (dk_at dksX2_solutionsBy_0 19 rfl rfl)
theorem dX2_solutionsBy_20 : decode cX2_solutionsBy 20 = .ok (.iinc 3 1, 3) := dk_132 3 1 (dk_at dksX2_solutionsBy_0 20 rfl rfl)
theorem dX2_solutionsBy_23 : decode cX2_solutionsBy 23 = .ok (.goto (-16), 3) := dk_167 255 240 (dk_at dksX2_solutionsBy_1 0 rfl rfl)
theorem dX2_solutionsBy_26 : decode cX2_solutionsBy 26 = .ok (.aload_n 0, 1) := dk_42 (dk_at dksX2_solutionsBy_1 3 rfl rfl)
theorem dX2_solutionsBy_27 : decode cX2_solutionsBy 27 = .ok (.iconst 0, 1) := dk_3 (dk_at dksX2_solutionsBy_1 4 rfl rfl)
theorem dX2_solutionsBy_28 : decode cX2_solutionsBy 28 = .ok (.iload_n 1, 1) := dk_27 (dk_at dksX2_solutionsBy_1 5 rfl rfl)
theorem dX2_solutionsBy_29 : decode cX2_solutionsBy 29 = .ok (.iload_n 2, 1) := dk_28 (dk_at dksX2_solutionsBy_1 6 rfl rfl)
theorem dX2_solutionsBy_30 : decode cX2_solutionsBy 30 = .ok (.invokevirtual 199, 3) := dk_182 0 199 (dk_at dksX2_solutionsBy_1 7 rfl rfl)
theorem dX2_solutionsBy_33 : decode cX2_solutionsBy 33 = .ok (.aload_n 0, 1) := dk_42 (dk_at dksX2_solutionsBy_1 10 rfl rfl)
theorem dX2_solutionsBy_34 : decode cX2_solutionsBy 34 = .ok (.getfield 190, 3) := dk_180 0 190 (dk_at dksX2_solutionsBy_1 11 rfl rfl)
theorem dX2_solutionsBy_37 : decode cX2_solutionsBy 37 = .ok (.ireturn, 1) := dk_172 (dk_at dksX2_solutionsBy_1 14 rfl rfl)
abbrev cX2_tries : ByteArray := prog_24_method_66_code
def yX2_tries : MethodName := ⟨RX2, "tries", "(III)V"⟩
def dkwX2_tries_6 : List UInt8 := [153, 0, 12, 42, 27, 4, 96, 28, 29, 182, 0, 199, 132, 4, 1, 167, 255, 203, 177]
abbrev dktX2_tries_6 : List UInt8 := dkwX2_tries_6 ++ []
def dkwX2_tries_5 : List UInt8 := [29, 162, 0, 40, 42, 180, 0, 47, 27, 42, 27, 21, 4, 182, 0, 193, 79, 42, 27, 28, 182, 0, 196]
abbrev dktX2_tries_5 : List UInt8 := dkwX2_tries_5 ++ dktX2_tries_6
def dkwX2_tries_4 : List UInt8 := [4, 96, 181, 0, 190, 177, 3, 54, 4, 21, 4, 42, 27, 3, 182, 0, 67, 163, 0, 48, 42, 180, 0, 190]
abbrev dktX2_tries_4 : List UInt8 := dkwX2_tries_4 ++ dktX2_tries_5
def dkwX2_tries_3 : List UInt8 := [92, 46, 4, 42, 180, 0, 47, 21, 4, 46, 120, 128, 79, 132, 4, 1, 167, 255, 192, 42, 89, 180, 0, 190]
abbrev dktX2_tries_3 : List UInt8 := dkwX2_tries_3 ++ dktX2_tries_4
def dkwX2_tries_2 : List UInt8 := [42, 180, 0, 47, 21, 4, 46, 167, 0, 10, 42, 180, 0, 50, 21, 4, 46, 79, 42, 180, 0, 53, 21, 4]
abbrev dktX2_tries_2 : List UInt8 := dkwX2_tries_2 ++ dktX2_tries_3
def dkwX2_tries_1 : List UInt8 := [21, 4, 42, 180, 0, 7, 3, 46, 162, 0, 59, 42, 180, 0, 50, 21, 4, 42, 180, 0, 190, 154, 0, 13]
abbrev dktX2_tries_1 : List UInt8 := dkwX2_tries_1 ++ dktX2_tries_2
def dkwX2_tries_0 : List UInt8 := [27, 42, 180, 0, 7, 3, 46, 160, 0, 94, 42, 28, 182, 0, 187, 2, 159, 0, 4, 177, 3, 54, 4]
abbrev dktX2_tries_0 : List UInt8 := dkwX2_tries_0 ++ dktX2_tries_1
theorem dksX2_tries_0 : cX2_tries.data.toList.drop 0 = dktX2_tries_0 := by decide +kernel
theorem dksX2_tries_1 : cX2_tries.data.toList.drop 23 = dktX2_tries_1 := dk_seg dksX2_tries_0 23 rfl rfl
theorem dksX2_tries_2 : cX2_tries.data.toList.drop 47 = dktX2_tries_2 := dk_seg dksX2_tries_1 24 rfl rfl
theorem dksX2_tries_3 : cX2_tries.data.toList.drop 71 = dktX2_tries_3 := dk_seg dksX2_tries_2 24 rfl rfl
theorem dksX2_tries_4 : cX2_tries.data.toList.drop 95 = dktX2_tries_4 := dk_seg dksX2_tries_3 24 rfl rfl
theorem dksX2_tries_5 : cX2_tries.data.toList.drop 119 = dktX2_tries_5 := dk_seg dksX2_tries_4 24 rfl rfl
theorem dksX2_tries_6 : cX2_tries.data.toList.drop 142 = dktX2_tries_6 := dk_seg dksX2_tries_5 23 rfl rfl
theorem dX2_tries_0 : decode cX2_tries 0 = .ok (.iload_n 1, 1) := dk_27 (dk_at dksX2_tries_0 0 rfl rfl)
theorem dX2_tries_1 : decode cX2_tries 1 = .ok (.aload_n 0, 1) := dk_42 (dk_at dksX2_tries_0 1 rfl rfl)
theorem dX2_tries_2 : decode cX2_tries 2 = .ok (.getfield 7, 3) := dk_180 0 7 (dk_at dksX2_tries_0 2 rfl rfl)
theorem dX2_tries_5 : decode cX2_tries 5 = .ok (.iconst 0, 1) := dk_3 (dk_at dksX2_tries_0 5 rfl rfl)
theorem dX2_tries_6 : decode cX2_tries 6 = .ok (.iaload, 1) := dk_46 (dk_at dksX2_tries_0 6 rfl rfl)
theorem dX2_tries_7 : decode cX2_tries 7 = .ok (.if_icmp .ne 94, 3) := dk_160 0 94 (dk_at dksX2_tries_0 7 rfl rfl)
theorem dX2_tries_10 : decode cX2_tries 10 = .ok (.aload_n 0, 1) := dk_42 (dk_at dksX2_tries_0 10 rfl rfl)
theorem dX2_tries_11 : decode cX2_tries 11 = .ok (.iload_n 2, 1) := dk_28 (dk_at dksX2_tries_0 11 rfl rfl)
theorem dX2_tries_12 : decode cX2_tries 12 = .ok (.invokevirtual 187, 3) := dk_182 0 187 (dk_at dksX2_tries_0 12 rfl rfl)
theorem dX2_tries_15 : decode cX2_tries 15 = .ok (.iconst (-1), 1) := dk_2 (dk_at dksX2_tries_0 15 rfl rfl)
theorem dX2_tries_16 : decode cX2_tries 16 = .ok (.if_icmp .eq 4, 3) := dk_159 0 4 (dk_at dksX2_tries_0 16 rfl rfl)
theorem dX2_tries_19 : decode cX2_tries 19 = .ok (.return_, 1) := dk_177 (dk_at dksX2_tries_0 19 rfl rfl)
theorem dX2_tries_20 : decode cX2_tries 20 = .ok (.iconst 0, 1) := dk_3 (dk_at dksX2_tries_0 20 rfl rfl)
theorem dX2_tries_21 : decode cX2_tries 21 = .ok (.istore 4, 2) := dk_54 4 (dk_at dksX2_tries_0 21 rfl rfl)
theorem dX2_tries_23 : decode cX2_tries 23 = .ok (.iload 4, 2) := dk_21 4 (dk_at dksX2_tries_1 0 rfl rfl)
theorem dX2_tries_25 : decode cX2_tries 25 = .ok (.aload_n 0, 1) := dk_42 (dk_at dksX2_tries_1 2 rfl rfl)
theorem dX2_tries_26 : decode cX2_tries 26 = .ok (.getfield 7, 3) := dk_180 0 7 (dk_at dksX2_tries_1 3 rfl rfl)
theorem dX2_tries_29 : decode cX2_tries 29 = .ok (.iconst 0, 1) := dk_3 (dk_at dksX2_tries_1 6 rfl rfl)
theorem dX2_tries_30 : decode cX2_tries 30 = .ok (.iaload, 1) := dk_46 (dk_at dksX2_tries_1 7 rfl rfl)
theorem dX2_tries_31 : decode cX2_tries 31 = .ok (.if_icmp .ge 59, 3) := dk_162 0 59 (dk_at dksX2_tries_1 8 rfl rfl)
theorem dX2_tries_34 : decode cX2_tries 34 = .ok (.aload_n 0, 1) := dk_42 (dk_at dksX2_tries_1 11 rfl rfl)
theorem dX2_tries_35 : decode cX2_tries 35 = .ok (.getfield 50, 3) := dk_180 0 50 (dk_at dksX2_tries_1 12 rfl rfl)
theorem dX2_tries_38 : decode cX2_tries 38 = .ok (.iload 4, 2) := dk_21 4 (dk_at dksX2_tries_1 15 rfl rfl)
theorem dX2_tries_40 : decode cX2_tries 40 = .ok (.aload_n 0, 1) := dk_42 (dk_at dksX2_tries_1 17 rfl rfl)
theorem dX2_tries_41 : decode cX2_tries 41 = .ok (.getfield 190, 3) := dk_180 0 190 (dk_at dksX2_tries_1 18 rfl rfl)
theorem dX2_tries_44 : decode cX2_tries 44 = .ok (.ifCond .ne 13, 3) := dk_154 0 13 (dk_at dksX2_tries_1 21 rfl rfl)
theorem dX2_tries_47 : decode cX2_tries 47 = .ok (.aload_n 0, 1) := dk_42 (dk_at dksX2_tries_2 0 rfl rfl)
theorem dX2_tries_48 : decode cX2_tries 48 = .ok (.getfield 47, 3) := dk_180 0 47 (dk_at dksX2_tries_2 1 rfl rfl)
theorem dX2_tries_51 : decode cX2_tries 51 = .ok (.iload 4, 2) := dk_21 4 (dk_at dksX2_tries_2 4 rfl rfl)
theorem dX2_tries_53 : decode cX2_tries 53 = .ok (.iaload, 1) := dk_46 (dk_at dksX2_tries_2 6 rfl rfl)
theorem dX2_tries_54 : decode cX2_tries 54 = .ok (.goto 10, 3) := dk_167 0 10 (dk_at dksX2_tries_2 7 rfl rfl)
theorem dX2_tries_57 : decode cX2_tries 57 = .ok (.aload_n 0, 1) := dk_42 (dk_at dksX2_tries_2 10 rfl rfl)
theorem dX2_tries_58 : decode cX2_tries 58 = .ok (.getfield 50, 3) := dk_180 0 50 (dk_at dksX2_tries_2 11 rfl rfl)
theorem dX2_tries_61 : decode cX2_tries 61 = .ok (.iload 4, 2) := dk_21 4 (dk_at dksX2_tries_2 14 rfl rfl)
theorem dX2_tries_63 : decode cX2_tries 63 = .ok (.iaload, 1) := dk_46 (dk_at dksX2_tries_2 16 rfl rfl)
theorem dX2_tries_64 : decode cX2_tries 64 = .ok (.iastore, 1) := dk_79 (dk_at dksX2_tries_2 17 rfl rfl)
theorem dX2_tries_65 : decode cX2_tries 65 = .ok (.aload_n 0, 1) := dk_42 (dk_at dksX2_tries_2 18 rfl rfl)
theorem dX2_tries_66 : decode cX2_tries 66 = .ok (.getfield 53, 3) := dk_180 0 53 (dk_at dksX2_tries_2 19 rfl rfl)
theorem dX2_tries_69 : decode cX2_tries 69 = .ok (.iload 4, 2) := dk_21 4 (dk_at dksX2_tries_2 22 rfl rfl)
theorem dX2_tries_71 : decode cX2_tries 71 = .ok (.dup2, 1) := dk_92 (dk_at dksX2_tries_3 0 rfl rfl)
theorem dX2_tries_72 : decode cX2_tries 72 = .ok (.iaload, 1) := dk_46 (dk_at dksX2_tries_3 1 rfl rfl)
theorem dX2_tries_73 : decode cX2_tries 73 = .ok (.iconst 1, 1) := dk_4 (dk_at dksX2_tries_3 2 rfl rfl)
theorem dX2_tries_74 : decode cX2_tries 74 = .ok (.aload_n 0, 1) := dk_42 (dk_at dksX2_tries_3 3 rfl rfl)
theorem dX2_tries_75 : decode cX2_tries 75 = .ok (.getfield 47, 3) := dk_180 0 47 (dk_at dksX2_tries_3 4 rfl rfl)
theorem dX2_tries_78 : decode cX2_tries 78 = .ok (.iload 4, 2) := dk_21 4 (dk_at dksX2_tries_3 7 rfl rfl)
theorem dX2_tries_80 : decode cX2_tries 80 = .ok (.iaload, 1) := dk_46 (dk_at dksX2_tries_3 9 rfl rfl)
theorem dX2_tries_81 : decode cX2_tries 81 = .ok (.ishl, 1) := dk_120 (dk_at dksX2_tries_3 10 rfl rfl)
theorem dX2_tries_82 : decode cX2_tries 82 = .ok (.ior, 1) := dk_128 (dk_at dksX2_tries_3 11 rfl rfl)
theorem dX2_tries_83 : decode cX2_tries 83 = .ok (.iastore, 1) := dk_79 (dk_at dksX2_tries_3 12 rfl rfl)
theorem dX2_tries_84 : decode cX2_tries 84 = .ok (.iinc 4 1, 3) := dk_132 4 1 (dk_at dksX2_tries_3 13 rfl rfl)
theorem dX2_tries_87 : decode cX2_tries 87 = .ok (.goto (-64), 3) := dk_167 255 192 (dk_at dksX2_tries_3 16 rfl rfl)
theorem dX2_tries_90 : decode cX2_tries 90 = .ok (.aload_n 0, 1) := dk_42 (dk_at dksX2_tries_3 19 rfl rfl)
theorem dX2_tries_91 : decode cX2_tries 91 = .ok (.dup, 1) := dk_89 (dk_at dksX2_tries_3 20 rfl rfl)
theorem dX2_tries_92 : decode cX2_tries 92 = .ok (.getfield 190, 3) := dk_180 0 190 (dk_at dksX2_tries_3 21 rfl rfl)
theorem dX2_tries_95 : decode cX2_tries 95 = .ok (.iconst 1, 1) := dk_4 (dk_at dksX2_tries_4 0 rfl rfl)
theorem dX2_tries_96 : decode cX2_tries 96 = .ok (.iadd, 1) := dk_96 (dk_at dksX2_tries_4 1 rfl rfl)
theorem dX2_tries_97 : decode cX2_tries 97 = .ok (.putfield 190, 3) := dk_181 0 190 (dk_at dksX2_tries_4 2 rfl rfl)
theorem dX2_tries_100 : decode cX2_tries 100 = .ok (.return_, 1) := dk_177 (dk_at dksX2_tries_4 5 rfl rfl)
theorem dX2_tries_101 : decode cX2_tries 101 = .ok (.iconst 0, 1) := dk_3 (dk_at dksX2_tries_4 6 rfl rfl)
theorem dX2_tries_102 : decode cX2_tries 102 = .ok (.istore 4, 2) := dk_54 4 (dk_at dksX2_tries_4 7 rfl rfl)
theorem dX2_tries_104 : decode cX2_tries 104 = .ok (.iload 4, 2) := dk_21 4 (dk_at dksX2_tries_4 9 rfl rfl)
theorem dX2_tries_106 : decode cX2_tries 106 = .ok (.aload_n 0, 1) := dk_42 (dk_at dksX2_tries_4 11 rfl rfl)
theorem dX2_tries_107 : decode cX2_tries 107 = .ok (.iload_n 1, 1) := dk_27 (dk_at dksX2_tries_4 12 rfl rfl)
theorem dX2_tries_108 : decode cX2_tries 108 = .ok (.iconst 0, 1) := dk_3 (dk_at dksX2_tries_4 13 rfl rfl)
theorem dX2_tries_109 : decode cX2_tries 109 = .ok (.invokevirtual 67, 3) := dk_182 0 67 (dk_at dksX2_tries_4 14 rfl rfl)
theorem dX2_tries_112 : decode cX2_tries 112 = .ok (.if_icmp .gt 48, 3) := dk_163 0 48 (dk_at dksX2_tries_4 17 rfl rfl)
theorem dX2_tries_115 : decode cX2_tries 115 = .ok (.aload_n 0, 1) := dk_42 (dk_at dksX2_tries_4 20 rfl rfl)
theorem dX2_tries_116 : decode cX2_tries 116 = .ok (.getfield 190, 3) := dk_180 0 190 (dk_at dksX2_tries_4 21 rfl rfl)
theorem dX2_tries_119 : decode cX2_tries 119 = .ok (.iload_n 3, 1) := dk_29 (dk_at dksX2_tries_5 0 rfl rfl)
theorem dX2_tries_120 : decode cX2_tries 120 = .ok (.if_icmp .ge 40, 3) := dk_162 0 40 (dk_at dksX2_tries_5 1 rfl rfl)
theorem dX2_tries_123 : decode cX2_tries 123 = .ok (.aload_n 0, 1) := dk_42 (dk_at dksX2_tries_5 4 rfl rfl)
theorem dX2_tries_124 : decode cX2_tries 124 = .ok (.getfield 47, 3) := dk_180 0 47 (dk_at dksX2_tries_5 5 rfl rfl)
theorem dX2_tries_127 : decode cX2_tries 127 = .ok (.iload_n 1, 1) := dk_27 (dk_at dksX2_tries_5 8 rfl rfl)
theorem dX2_tries_128 : decode cX2_tries 128 = .ok (.aload_n 0, 1) := dk_42 (dk_at dksX2_tries_5 9 rfl rfl)
theorem dX2_tries_129 : decode cX2_tries 129 = .ok (.iload_n 1, 1) := dk_27 (dk_at dksX2_tries_5 10 rfl rfl)
theorem dX2_tries_130 : decode cX2_tries 130 = .ok (.iload 4, 2) := dk_21 4 (dk_at dksX2_tries_5 11 rfl rfl)
theorem dX2_tries_132 : decode cX2_tries 132 = .ok (.invokevirtual 193, 3) := dk_182 0 193 (dk_at dksX2_tries_5 13 rfl rfl)
theorem dX2_tries_135 : decode cX2_tries 135 = .ok (.iastore, 1) := dk_79 (dk_at dksX2_tries_5 16 rfl rfl)
theorem dX2_tries_136 : decode cX2_tries 136 = .ok (.aload_n 0, 1) := dk_42 (dk_at dksX2_tries_5 17 rfl rfl)
theorem dX2_tries_137 : decode cX2_tries 137 = .ok (.iload_n 1, 1) := dk_27 (dk_at dksX2_tries_5 18 rfl rfl)
theorem dX2_tries_138 : decode cX2_tries 138 = .ok (.iload_n 2, 1) := dk_28 (dk_at dksX2_tries_5 19 rfl rfl)
theorem dX2_tries_139 : decode cX2_tries 139 = .ok (.invokevirtual 196, 3) := dk_182 0 196 (dk_at dksX2_tries_5 20 rfl rfl)
theorem dX2_tries_142 : decode cX2_tries 142 = .ok (.ifCond .eq 12, 3) := dk_153 0 12 (dk_at dksX2_tries_6 0 rfl rfl)
theorem dX2_tries_145 : decode cX2_tries 145 = .ok (.aload_n 0, 1) := dk_42 (dk_at dksX2_tries_6 3 rfl rfl)
theorem dX2_tries_146 : decode cX2_tries 146 = .ok (.iload_n 1, 1) := dk_27 (dk_at dksX2_tries_6 4 rfl rfl)
theorem dX2_tries_147 : decode cX2_tries 147 = .ok (.iconst 1, 1) := dk_4 (dk_at dksX2_tries_6 5 rfl rfl)
theorem dX2_tries_148 : decode cX2_tries 148 = .ok (.iadd, 1) := dk_96 (dk_at dksX2_tries_6 6 rfl rfl)
theorem dX2_tries_149 : decode cX2_tries 149 = .ok (.iload_n 2, 1) := dk_28 (dk_at dksX2_tries_6 7 rfl rfl)
theorem dX2_tries_150 : decode cX2_tries 150 = .ok (.iload_n 3, 1) := dk_29 (dk_at dksX2_tries_6 8 rfl rfl)
theorem dX2_tries_151 : decode cX2_tries 151 = .ok (.invokevirtual 199, 3) := dk_182 0 199 (dk_at dksX2_tries_6 9 rfl rfl)
theorem dX2_tries_154 : decode cX2_tries 154 = .ok (.iinc 4 1, 3) := dk_132 4 1 (dk_at dksX2_tries_6 12 rfl rfl)
theorem dX2_tries_157 : decode cX2_tries 157 = .ok (.goto (-53), 3) := dk_167 255 203 (dk_at dksX2_tries_6 15 rfl rfl)
theorem dX2_tries_160 : decode cX2_tries 160 = .ok (.return_, 1) := dk_177 (dk_at dksX2_tries_6 18 rfl rfl)
abbrev cX2_unreached : ByteArray := prog_24_method_62_code
def yX2_unreached : MethodName := ⟨RX2, "unreached", "(I)I"⟩
def dkwX2_unreached_8 : List UInt8 := [154, 0, 5, 29, 172, 132, 3, 1, 167, 255, 223, 2, 172]
abbrev dktX2_unreached_8 : List UInt8 := dkwX2_unreached_8 ++ []
def dkwX2_unreached_7 : List UInt8 := [180, 0, 7, 3, 46, 162, 0, 29, 42, 180, 0, 47, 29, 46, 8, 159, 0, 13, 28, 29, 122, 4, 126]
abbrev dktX2_unreached_7 : List UInt8 := dkwX2_unreached_7 ++ dktX2_unreached_8
def dkwX2_unreached_6 : List UInt8 := [182, 0, 87, 120, 128, 61, 132, 4, 1, 167, 255, 123, 132, 3, 1, 167, 255, 104, 3, 62, 29, 42]
abbrev dktX2_unreached_6 : List UInt8 := dkwX2_unreached_6 ++ dktX2_unreached_7
def dkwX2_unreached_5 : List UInt8 := [153, 0, 30, 28, 4, 21, 5, 153, 0, 13, 42, 21, 4, 4, 182, 0, 87, 167, 0, 10, 42, 21, 4, 6]
abbrev dktX2_unreached_5 : List UInt8 := dkwX2_unreached_5 ++ dktX2_unreached_6
def dkwX2_unreached_4 : List UInt8 := [167, 0, 4, 3, 54, 6, 27, 21, 4, 122, 4, 126, 4, 160, 0, 40, 21, 5, 154, 0, 8, 21, 6]
abbrev dktX2_unreached_4 : List UInt8 := dkwX2_unreached_4 ++ dktX2_unreached_5
def dkwX2_unreached_3 : List UInt8 := [180, 0, 47, 42, 21, 4, 4, 182, 0, 87, 46, 42, 21, 4, 5, 182, 0, 87, 160, 0, 7, 4]
abbrev dktX2_unreached_3 : List UInt8 := dkwX2_unreached_3 ++ dktX2_unreached_4
def dkwX2_unreached_2 : List UInt8 := [3, 182, 0, 87, 4, 160, 0, 44, 28, 42, 21, 4, 4, 182, 0, 87, 122, 4, 126, 4, 160, 0, 29, 42]
abbrev dktX2_unreached_2 : List UInt8 := dkwX2_unreached_2 ++ dktX2_unreached_3
def dkwX2_unreached_1 : List UInt8 := [46, 162, 0, 128, 42, 21, 4, 3, 182, 0, 87, 154, 0, 7, 4, 167, 0, 4, 3, 54, 5, 42, 21, 4]
abbrev dktX2_unreached_1 : List UInt8 := dkwX2_unreached_1 ++ dktX2_unreached_2
def dkwX2_unreached_0 : List UInt8 := [3, 61, 3, 62, 29, 42, 180, 0, 7, 3, 46, 163, 0, 148, 3, 54, 4, 21, 4, 42, 180, 0, 7, 4]
abbrev dktX2_unreached_0 : List UInt8 := dkwX2_unreached_0 ++ dktX2_unreached_1
theorem dksX2_unreached_0 : cX2_unreached.data.toList.drop 0 = dktX2_unreached_0 := by decide +kernel
theorem dksX2_unreached_1 : cX2_unreached.data.toList.drop 24 = dktX2_unreached_1 := dk_seg dksX2_unreached_0 24 rfl rfl
theorem dksX2_unreached_2 : cX2_unreached.data.toList.drop 48 = dktX2_unreached_2 := dk_seg dksX2_unreached_1 24 rfl rfl
theorem dksX2_unreached_3 : cX2_unreached.data.toList.drop 72 = dktX2_unreached_3 := dk_seg dksX2_unreached_2 24 rfl rfl
theorem dksX2_unreached_4 : cX2_unreached.data.toList.drop 94 = dktX2_unreached_4 := dk_seg dksX2_unreached_3 22 rfl rfl
theorem dksX2_unreached_5 : cX2_unreached.data.toList.drop 117 = dktX2_unreached_5 := dk_seg dksX2_unreached_4 23 rfl rfl
theorem dksX2_unreached_6 : cX2_unreached.data.toList.drop 141 = dktX2_unreached_6 := dk_seg dksX2_unreached_5 24 rfl rfl
theorem dksX2_unreached_7 : cX2_unreached.data.toList.drop 163 = dktX2_unreached_7 := dk_seg dksX2_unreached_6 22 rfl rfl
theorem dksX2_unreached_8 : cX2_unreached.data.toList.drop 186 = dktX2_unreached_8 := dk_seg dksX2_unreached_7 23 rfl rfl
theorem dX2_unreached_0 : decode cX2_unreached 0 = .ok (.iconst 0, 1) := dk_3 (dk_at dksX2_unreached_0 0 rfl rfl)
theorem dX2_unreached_1 : decode cX2_unreached 1 = .ok (.istore_n 2, 1) := dk_61 (dk_at dksX2_unreached_0 1 rfl rfl)
theorem dX2_unreached_2 : decode cX2_unreached 2 = .ok (.iconst 0, 1) := dk_3 (dk_at dksX2_unreached_0 2 rfl rfl)
theorem dX2_unreached_3 : decode cX2_unreached 3 = .ok (.istore_n 3, 1) := dk_62 (dk_at dksX2_unreached_0 3 rfl rfl)
theorem dX2_unreached_4 : decode cX2_unreached 4 = .ok (.iload_n 3, 1) := dk_29 (dk_at dksX2_unreached_0 4 rfl rfl)
theorem dX2_unreached_5 : decode cX2_unreached 5 = .ok (.aload_n 0, 1) := dk_42 (dk_at dksX2_unreached_0 5 rfl rfl)
theorem dX2_unreached_6 : decode cX2_unreached 6 = .ok (.getfield 7, 3) := dk_180 0 7 (dk_at dksX2_unreached_0 6 rfl rfl)
theorem dX2_unreached_9 : decode cX2_unreached 9 = .ok (.iconst 0, 1) := dk_3 (dk_at dksX2_unreached_0 9 rfl rfl)
theorem dX2_unreached_10 : decode cX2_unreached 10 = .ok (.iaload, 1) := dk_46 (dk_at dksX2_unreached_0 10 rfl rfl)
theorem dX2_unreached_11 : decode cX2_unreached 11 = .ok (.if_icmp .gt 148, 3) := dk_163 0 148 (dk_at dksX2_unreached_0 11 rfl rfl)
theorem dX2_unreached_14 : decode cX2_unreached 14 = .ok (.iconst 0, 1) := dk_3 (dk_at dksX2_unreached_0 14 rfl rfl)
theorem dX2_unreached_15 : decode cX2_unreached 15 = .ok (.istore 4, 2) := dk_54 4 (dk_at dksX2_unreached_0 15 rfl rfl)
theorem dX2_unreached_17 : decode cX2_unreached 17 = .ok (.iload 4, 2) := dk_21 4 (dk_at dksX2_unreached_0 17 rfl rfl)
theorem dX2_unreached_19 : decode cX2_unreached 19 = .ok (.aload_n 0, 1) := dk_42 (dk_at dksX2_unreached_0 19 rfl rfl)
theorem dX2_unreached_20 : decode cX2_unreached 20 = .ok (.getfield 7, 3) := dk_180 0 7 (dk_at dksX2_unreached_0 20 rfl rfl)
theorem dX2_unreached_23 : decode cX2_unreached 23 = .ok (.iconst 1, 1) := dk_4 (dk_at dksX2_unreached_0 23 rfl rfl)
theorem dX2_unreached_24 : decode cX2_unreached 24 = .ok (.iaload, 1) := dk_46 (dk_at dksX2_unreached_1 0 rfl rfl)
theorem dX2_unreached_25 : decode cX2_unreached 25 = .ok (.if_icmp .ge 128, 3) := dk_162 0 128 (dk_at dksX2_unreached_1 1 rfl rfl)
theorem dX2_unreached_28 : decode cX2_unreached 28 = .ok (.aload_n 0, 1) := dk_42 (dk_at dksX2_unreached_1 4 rfl rfl)
theorem dX2_unreached_29 : decode cX2_unreached 29 = .ok (.iload 4, 2) := dk_21 4 (dk_at dksX2_unreached_1 5 rfl rfl)
theorem dX2_unreached_31 : decode cX2_unreached 31 = .ok (.iconst 0, 1) := dk_3 (dk_at dksX2_unreached_1 7 rfl rfl)
theorem dX2_unreached_32 : decode cX2_unreached 32 = .ok (.invokevirtual 87, 3) := dk_182 0 87 (dk_at dksX2_unreached_1 8 rfl rfl)
theorem dX2_unreached_35 : decode cX2_unreached 35 = .ok (.ifCond .ne 7, 3) := dk_154 0 7 (dk_at dksX2_unreached_1 11 rfl rfl)
theorem dX2_unreached_38 : decode cX2_unreached 38 = .ok (.iconst 1, 1) := dk_4 (dk_at dksX2_unreached_1 14 rfl rfl)
theorem dX2_unreached_39 : decode cX2_unreached 39 = .ok (.goto 4, 3) := dk_167 0 4 (dk_at dksX2_unreached_1 15 rfl rfl)
theorem dX2_unreached_42 : decode cX2_unreached 42 = .ok (.iconst 0, 1) := dk_3 (dk_at dksX2_unreached_1 18 rfl rfl)
theorem dX2_unreached_43 : decode cX2_unreached 43 = .ok (.istore 5, 2) := dk_54 5 (dk_at dksX2_unreached_1 19 rfl rfl)
theorem dX2_unreached_45 : decode cX2_unreached 45 = .ok (.aload_n 0, 1) := dk_42 (dk_at dksX2_unreached_1 21 rfl rfl)
theorem dX2_unreached_46 : decode cX2_unreached 46 = .ok (.iload 4, 2) := dk_21 4 (dk_at dksX2_unreached_1 22 rfl rfl)
theorem dX2_unreached_48 : decode cX2_unreached 48 = .ok (.iconst 0, 1) := dk_3 (dk_at dksX2_unreached_2 0 rfl rfl)
theorem dX2_unreached_49 : decode cX2_unreached 49 = .ok (.invokevirtual 87, 3) := dk_182 0 87 (dk_at dksX2_unreached_2 1 rfl rfl)
theorem dX2_unreached_52 : decode cX2_unreached 52 = .ok (.iconst 1, 1) := dk_4 (dk_at dksX2_unreached_2 4 rfl rfl)
theorem dX2_unreached_53 : decode cX2_unreached 53 = .ok (.if_icmp .ne 44, 3) := dk_160 0 44 (dk_at dksX2_unreached_2 5 rfl rfl)
theorem dX2_unreached_56 : decode cX2_unreached 56 = .ok (.iload_n 2, 1) := dk_28 (dk_at dksX2_unreached_2 8 rfl rfl)
theorem dX2_unreached_57 : decode cX2_unreached 57 = .ok (.aload_n 0, 1) := dk_42 (dk_at dksX2_unreached_2 9 rfl rfl)
theorem dX2_unreached_58 : decode cX2_unreached 58 = .ok (.iload 4, 2) := dk_21 4 (dk_at dksX2_unreached_2 10 rfl rfl)
theorem dX2_unreached_60 : decode cX2_unreached 60 = .ok (.iconst 1, 1) := dk_4 (dk_at dksX2_unreached_2 12 rfl rfl)
theorem dX2_unreached_61 : decode cX2_unreached 61 = .ok (.invokevirtual 87, 3) := dk_182 0 87 (dk_at dksX2_unreached_2 13 rfl rfl)
theorem dX2_unreached_64 : decode cX2_unreached 64 = .ok (.ishr, 1) := dk_122 (dk_at dksX2_unreached_2 16 rfl rfl)
theorem dX2_unreached_65 : decode cX2_unreached 65 = .ok (.iconst 1, 1) := dk_4 (dk_at dksX2_unreached_2 17 rfl rfl)
theorem dX2_unreached_66 : decode cX2_unreached 66 = .ok (.iand, 1) := dk_126 (dk_at dksX2_unreached_2 18 rfl rfl)
theorem dX2_unreached_67 : decode cX2_unreached 67 = .ok (.iconst 1, 1) := dk_4 (dk_at dksX2_unreached_2 19 rfl rfl)
theorem dX2_unreached_68 : decode cX2_unreached 68 = .ok (.if_icmp .ne 29, 3) := dk_160 0 29 (dk_at dksX2_unreached_2 20 rfl rfl)
theorem dX2_unreached_71 : decode cX2_unreached 71 = .ok (.aload_n 0, 1) := dk_42 (dk_at dksX2_unreached_2 23 rfl rfl)
theorem dX2_unreached_72 : decode cX2_unreached 72 = .ok (.getfield 47, 3) := dk_180 0 47 (dk_at dksX2_unreached_3 0 rfl rfl)
theorem dX2_unreached_75 : decode cX2_unreached 75 = .ok (.aload_n 0, 1) := dk_42 (dk_at dksX2_unreached_3 3 rfl rfl)
theorem dX2_unreached_76 : decode cX2_unreached 76 = .ok (.iload 4, 2) := dk_21 4 (dk_at dksX2_unreached_3 4 rfl rfl)
theorem dX2_unreached_78 : decode cX2_unreached 78 = .ok (.iconst 1, 1) := dk_4 (dk_at dksX2_unreached_3 6 rfl rfl)
theorem dX2_unreached_79 : decode cX2_unreached 79 = .ok (.invokevirtual 87, 3) := dk_182 0 87 (dk_at dksX2_unreached_3 7 rfl rfl)
theorem dX2_unreached_82 : decode cX2_unreached 82 = .ok (.iaload, 1) := dk_46 (dk_at dksX2_unreached_3 10 rfl rfl)
theorem dX2_unreached_83 : decode cX2_unreached 83 = .ok (.aload_n 0, 1) := dk_42 (dk_at dksX2_unreached_3 11 rfl rfl)
theorem dX2_unreached_84 : decode cX2_unreached 84 = .ok (.iload 4, 2) := dk_21 4 (dk_at dksX2_unreached_3 12 rfl rfl)
theorem dX2_unreached_86 : decode cX2_unreached 86 = .ok (.iconst 2, 1) := dk_5 (dk_at dksX2_unreached_3 14 rfl rfl)
theorem dX2_unreached_87 : decode cX2_unreached 87 = .ok (.invokevirtual 87, 3) := dk_182 0 87 (dk_at dksX2_unreached_3 15 rfl rfl)
theorem dX2_unreached_90 : decode cX2_unreached 90 = .ok (.if_icmp .ne 7, 3) := dk_160 0 7 (dk_at dksX2_unreached_3 18 rfl rfl)
theorem dX2_unreached_93 : decode cX2_unreached 93 = .ok (.iconst 1, 1) := dk_4 (dk_at dksX2_unreached_3 21 rfl rfl)
theorem dX2_unreached_94 : decode cX2_unreached 94 = .ok (.goto 4, 3) := dk_167 0 4 (dk_at dksX2_unreached_4 0 rfl rfl)
theorem dX2_unreached_97 : decode cX2_unreached 97 = .ok (.iconst 0, 1) := dk_3 (dk_at dksX2_unreached_4 3 rfl rfl)
theorem dX2_unreached_98 : decode cX2_unreached 98 = .ok (.istore 6, 2) := dk_54 6 (dk_at dksX2_unreached_4 4 rfl rfl)
theorem dX2_unreached_100 : decode cX2_unreached 100 = .ok (.iload_n 1, 1) := dk_27 (dk_at dksX2_unreached_4 6 rfl rfl)
theorem dX2_unreached_101 : decode cX2_unreached 101 = .ok (.iload 4, 2) := dk_21 4 (dk_at dksX2_unreached_4 7 rfl rfl)
theorem dX2_unreached_103 : decode cX2_unreached 103 = .ok (.ishr, 1) := dk_122 (dk_at dksX2_unreached_4 9 rfl rfl)
theorem dX2_unreached_104 : decode cX2_unreached 104 = .ok (.iconst 1, 1) := dk_4 (dk_at dksX2_unreached_4 10 rfl rfl)
theorem dX2_unreached_105 : decode cX2_unreached 105 = .ok (.iand, 1) := dk_126 (dk_at dksX2_unreached_4 11 rfl rfl)
theorem dX2_unreached_106 : decode cX2_unreached 106 = .ok (.iconst 1, 1) := dk_4 (dk_at dksX2_unreached_4 12 rfl rfl)
theorem dX2_unreached_107 : decode cX2_unreached 107 = .ok (.if_icmp .ne 40, 3) := dk_160 0 40 (dk_at dksX2_unreached_4 13 rfl rfl)
theorem dX2_unreached_110 : decode cX2_unreached 110 = .ok (.iload 5, 2) := dk_21 5 (dk_at dksX2_unreached_4 16 rfl rfl)
theorem dX2_unreached_112 : decode cX2_unreached 112 = .ok (.ifCond .ne 8, 3) := dk_154 0 8 (dk_at dksX2_unreached_4 18 rfl rfl)
theorem dX2_unreached_115 : decode cX2_unreached 115 = .ok (.iload 6, 2) := dk_21 6 (dk_at dksX2_unreached_4 21 rfl rfl)
theorem dX2_unreached_117 : decode cX2_unreached 117 = .ok (.ifCond .eq 30, 3) := dk_153 0 30 (dk_at dksX2_unreached_5 0 rfl rfl)
theorem dX2_unreached_120 : decode cX2_unreached 120 = .ok (.iload_n 2, 1) := dk_28 (dk_at dksX2_unreached_5 3 rfl rfl)
theorem dX2_unreached_121 : decode cX2_unreached 121 = .ok (.iconst 1, 1) := dk_4 (dk_at dksX2_unreached_5 4 rfl rfl)
theorem dX2_unreached_122 : decode cX2_unreached 122 = .ok (.iload 5, 2) := dk_21 5 (dk_at dksX2_unreached_5 5 rfl rfl)
theorem dX2_unreached_124 : decode cX2_unreached 124 = .ok (.ifCond .eq 13, 3) := dk_153 0 13 (dk_at dksX2_unreached_5 7 rfl rfl)
theorem dX2_unreached_127 : decode cX2_unreached 127 = .ok (.aload_n 0, 1) := dk_42 (dk_at dksX2_unreached_5 10 rfl rfl)
theorem dX2_unreached_128 : decode cX2_unreached 128 = .ok (.iload 4, 2) := dk_21 4 (dk_at dksX2_unreached_5 11 rfl rfl)
theorem dX2_unreached_130 : decode cX2_unreached 130 = .ok (.iconst 1, 1) := dk_4 (dk_at dksX2_unreached_5 13 rfl rfl)
theorem dX2_unreached_131 : decode cX2_unreached 131 = .ok (.invokevirtual 87, 3) := dk_182 0 87 (dk_at dksX2_unreached_5 14 rfl rfl)
theorem dX2_unreached_134 : decode cX2_unreached 134 = .ok (.goto 10, 3) := dk_167 0 10 (dk_at dksX2_unreached_5 17 rfl rfl)
theorem dX2_unreached_137 : decode cX2_unreached 137 = .ok (.aload_n 0, 1) := dk_42 (dk_at dksX2_unreached_5 20 rfl rfl)
theorem dX2_unreached_138 : decode cX2_unreached 138 = .ok (.iload 4, 2) := dk_21 4 (dk_at dksX2_unreached_5 21 rfl rfl)
theorem dX2_unreached_140 : decode cX2_unreached 140 = .ok (.iconst 3, 1) := dk_6 (dk_at dksX2_unreached_5 23 rfl rfl)
theorem dX2_unreached_141 : decode cX2_unreached 141 = .ok (.invokevirtual 87, 3) := dk_182 0 87 (dk_at dksX2_unreached_6 0 rfl rfl)
theorem dX2_unreached_144 : decode cX2_unreached 144 = .ok (.ishl, 1) := dk_120 (dk_at dksX2_unreached_6 3 rfl rfl)
theorem dX2_unreached_145 : decode cX2_unreached 145 = .ok (.ior, 1) := dk_128 (dk_at dksX2_unreached_6 4 rfl rfl)
theorem dX2_unreached_146 : decode cX2_unreached 146 = .ok (.istore_n 2, 1) := dk_61 (dk_at dksX2_unreached_6 5 rfl rfl)
theorem dX2_unreached_147 : decode cX2_unreached 147 = .ok (.iinc 4 1, 3) := dk_132 4 1 (dk_at dksX2_unreached_6 6 rfl rfl)
theorem dX2_unreached_150 : decode cX2_unreached 150 = .ok (.goto (-133), 3) := dk_167 255 123 (dk_at dksX2_unreached_6 9 rfl rfl)
theorem dX2_unreached_153 : decode cX2_unreached 153 = .ok (.iinc 3 1, 3) := dk_132 3 1 (dk_at dksX2_unreached_6 12 rfl rfl)
theorem dX2_unreached_156 : decode cX2_unreached 156 = .ok (.goto (-152), 3) := dk_167 255 104 (dk_at dksX2_unreached_6 15 rfl rfl)
theorem dX2_unreached_159 : decode cX2_unreached 159 = .ok (.iconst 0, 1) := dk_3 (dk_at dksX2_unreached_6 18 rfl rfl)
theorem dX2_unreached_160 : decode cX2_unreached 160 = .ok (.istore_n 3, 1) := dk_62 (dk_at dksX2_unreached_6 19 rfl rfl)
theorem dX2_unreached_161 : decode cX2_unreached 161 = .ok (.iload_n 3, 1) := dk_29 (dk_at dksX2_unreached_6 20 rfl rfl)
theorem dX2_unreached_162 : decode cX2_unreached 162 = .ok (.aload_n 0, 1) := dk_42 (dk_at dksX2_unreached_6 21 rfl rfl)
theorem dX2_unreached_163 : decode cX2_unreached 163 = .ok (.getfield 7, 3) := dk_180 0 7 (dk_at dksX2_unreached_7 0 rfl rfl)
theorem dX2_unreached_166 : decode cX2_unreached 166 = .ok (.iconst 0, 1) := dk_3 (dk_at dksX2_unreached_7 3 rfl rfl)
theorem dX2_unreached_167 : decode cX2_unreached 167 = .ok (.iaload, 1) := dk_46 (dk_at dksX2_unreached_7 4 rfl rfl)
theorem dX2_unreached_168 : decode cX2_unreached 168 = .ok (.if_icmp .ge 29, 3) := dk_162 0 29 (dk_at dksX2_unreached_7 5 rfl rfl)
theorem dX2_unreached_171 : decode cX2_unreached 171 = .ok (.aload_n 0, 1) := dk_42 (dk_at dksX2_unreached_7 8 rfl rfl)
theorem dX2_unreached_172 : decode cX2_unreached 172 = .ok (.getfield 47, 3) := dk_180 0 47 (dk_at dksX2_unreached_7 9 rfl rfl)
theorem dX2_unreached_175 : decode cX2_unreached 175 = .ok (.iload_n 3, 1) := dk_29 (dk_at dksX2_unreached_7 12 rfl rfl)
theorem dX2_unreached_176 : decode cX2_unreached 176 = .ok (.iaload, 1) := dk_46 (dk_at dksX2_unreached_7 13 rfl rfl)
theorem dX2_unreached_177 : decode cX2_unreached 177 = .ok (.iconst 5, 1) := dk_8 (dk_at dksX2_unreached_7 14 rfl rfl)
theorem dX2_unreached_178 : decode cX2_unreached 178 = .ok (.if_icmp .eq 13, 3) := dk_159 0 13 (dk_at dksX2_unreached_7 15 rfl rfl)
theorem dX2_unreached_181 : decode cX2_unreached 181 = .ok (.iload_n 2, 1) := dk_28 (dk_at dksX2_unreached_7 18 rfl rfl)
theorem dX2_unreached_182 : decode cX2_unreached 182 = .ok (.iload_n 3, 1) := dk_29 (dk_at dksX2_unreached_7 19 rfl rfl)
theorem dX2_unreached_183 : decode cX2_unreached 183 = .ok (.ishr, 1) := dk_122 (dk_at dksX2_unreached_7 20 rfl rfl)
theorem dX2_unreached_184 : decode cX2_unreached 184 = .ok (.iconst 1, 1) := dk_4 (dk_at dksX2_unreached_7 21 rfl rfl)
theorem dX2_unreached_185 : decode cX2_unreached 185 = .ok (.iand, 1) := dk_126 (dk_at dksX2_unreached_7 22 rfl rfl)
theorem dX2_unreached_186 : decode cX2_unreached 186 = .ok (.ifCond .ne 5, 3) := dk_154 0 5 (dk_at dksX2_unreached_8 0 rfl rfl)
theorem dX2_unreached_189 : decode cX2_unreached 189 = .ok (.iload_n 3, 1) := dk_29 (dk_at dksX2_unreached_8 3 rfl rfl)
theorem dX2_unreached_190 : decode cX2_unreached 190 = .ok (.ireturn, 1) := dk_172 (dk_at dksX2_unreached_8 4 rfl rfl)
theorem dX2_unreached_191 : decode cX2_unreached 191 = .ok (.iinc 3 1, 3) := dk_132 3 1 (dk_at dksX2_unreached_8 5 rfl rfl)
theorem dX2_unreached_194 : decode cX2_unreached 194 = .ok (.goto (-33), 3) := dk_167 255 223 (dk_at dksX2_unreached_8 8 rfl rfl)
theorem dX2_unreached_197 : decode cX2_unreached 197 = .ok (.iconst (-1), 1) := dk_2 (dk_at dksX2_unreached_8 11 rfl rfl)
theorem dX2_unreached_198 : decode cX2_unreached 198 = .ok (.ireturn, 1) := dk_172 (dk_at dksX2_unreached_8 12 rfl rfl)
abbrev cX2_byRank : ByteArray := prog_24_method_65_code
def yX2_byRank : MethodName := ⟨RX2, "byRank", "(II)I"⟩
def dkwX2_byRank_1 : List UInt8 := [4, 100, 28, 100, 160, 0, 5, 29, 172, 132, 3, 1, 167, 255, 222, 8, 172]
abbrev dktX2_byRank_1 : List UInt8 := dkwX2_byRank_1 ++ []
def dkwX2_byRank_0 : List UInt8 := [3, 62, 29, 42, 27, 3, 182, 0, 67, 162, 0, 30, 42, 27, 29, 182, 0, 94, 42, 27, 3, 182, 0, 67]
abbrev dktX2_byRank_0 : List UInt8 := dkwX2_byRank_0 ++ dktX2_byRank_1
theorem dksX2_byRank_0 : cX2_byRank.data.toList.drop 0 = dktX2_byRank_0 := by decide +kernel
theorem dksX2_byRank_1 : cX2_byRank.data.toList.drop 24 = dktX2_byRank_1 := dk_seg dksX2_byRank_0 24 rfl rfl
theorem dX2_byRank_0 : decode cX2_byRank 0 = .ok (.iconst 0, 1) := dk_3 (dk_at dksX2_byRank_0 0 rfl rfl)
theorem dX2_byRank_1 : decode cX2_byRank 1 = .ok (.istore_n 3, 1) := dk_62 (dk_at dksX2_byRank_0 1 rfl rfl)
theorem dX2_byRank_2 : decode cX2_byRank 2 = .ok (.iload_n 3, 1) := dk_29 (dk_at dksX2_byRank_0 2 rfl rfl)
theorem dX2_byRank_3 : decode cX2_byRank 3 = .ok (.aload_n 0, 1) := dk_42 (dk_at dksX2_byRank_0 3 rfl rfl)
theorem dX2_byRank_4 : decode cX2_byRank 4 = .ok (.iload_n 1, 1) := dk_27 (dk_at dksX2_byRank_0 4 rfl rfl)
theorem dX2_byRank_5 : decode cX2_byRank 5 = .ok (.iconst 0, 1) := dk_3 (dk_at dksX2_byRank_0 5 rfl rfl)
theorem dX2_byRank_6 : decode cX2_byRank 6 = .ok (.invokevirtual 67, 3) := dk_182 0 67 (dk_at dksX2_byRank_0 6 rfl rfl)
theorem dX2_byRank_9 : decode cX2_byRank 9 = .ok (.if_icmp .ge 30, 3) := dk_162 0 30 (dk_at dksX2_byRank_0 9 rfl rfl)
theorem dX2_byRank_12 : decode cX2_byRank 12 = .ok (.aload_n 0, 1) := dk_42 (dk_at dksX2_byRank_0 12 rfl rfl)
theorem dX2_byRank_13 : decode cX2_byRank 13 = .ok (.iload_n 1, 1) := dk_27 (dk_at dksX2_byRank_0 13 rfl rfl)
theorem dX2_byRank_14 : decode cX2_byRank 14 = .ok (.iload_n 3, 1) := dk_29 (dk_at dksX2_byRank_0 14 rfl rfl)
theorem dX2_byRank_15 : decode cX2_byRank 15 = .ok (.invokevirtual 94, 3) := dk_182 0 94 (dk_at dksX2_byRank_0 15 rfl rfl)
theorem dX2_byRank_18 : decode cX2_byRank 18 = .ok (.aload_n 0, 1) := dk_42 (dk_at dksX2_byRank_0 18 rfl rfl)
theorem dX2_byRank_19 : decode cX2_byRank 19 = .ok (.iload_n 1, 1) := dk_27 (dk_at dksX2_byRank_0 19 rfl rfl)
theorem dX2_byRank_20 : decode cX2_byRank 20 = .ok (.iconst 0, 1) := dk_3 (dk_at dksX2_byRank_0 20 rfl rfl)
theorem dX2_byRank_21 : decode cX2_byRank 21 = .ok (.invokevirtual 67, 3) := dk_182 0 67 (dk_at dksX2_byRank_0 21 rfl rfl)
theorem dX2_byRank_24 : decode cX2_byRank 24 = .ok (.iconst 1, 1) := dk_4 (dk_at dksX2_byRank_1 0 rfl rfl)
theorem dX2_byRank_25 : decode cX2_byRank 25 = .ok (.isub, 1) := dk_100 (dk_at dksX2_byRank_1 1 rfl rfl)
theorem dX2_byRank_26 : decode cX2_byRank 26 = .ok (.iload_n 2, 1) := dk_28 (dk_at dksX2_byRank_1 2 rfl rfl)
theorem dX2_byRank_27 : decode cX2_byRank 27 = .ok (.isub, 1) := dk_100 (dk_at dksX2_byRank_1 3 rfl rfl)
theorem dX2_byRank_28 : decode cX2_byRank 28 = .ok (.if_icmp .ne 5, 3) := dk_160 0 5 (dk_at dksX2_byRank_1 4 rfl rfl)
theorem dX2_byRank_31 : decode cX2_byRank 31 = .ok (.iload_n 3, 1) := dk_29 (dk_at dksX2_byRank_1 7 rfl rfl)
theorem dX2_byRank_32 : decode cX2_byRank 32 = .ok (.ireturn, 1) := dk_172 (dk_at dksX2_byRank_1 8 rfl rfl)
theorem dX2_byRank_33 : decode cX2_byRank 33 = .ok (.iinc 3 1, 3) := dk_132 3 1 (dk_at dksX2_byRank_1 9 rfl rfl)
theorem dX2_byRank_36 : decode cX2_byRank 36 = .ok (.goto (-34), 3) := dk_167 255 222 (dk_at dksX2_byRank_1 12 rfl rfl)
theorem dX2_byRank_39 : decode cX2_byRank 39 = .ok (.iconst 5, 1) := dk_8 (dk_at dksX2_byRank_1 15 rfl rfl)
theorem dX2_byRank_40 : decode cX2_byRank 40 = .ok (.ireturn, 1) := dk_172 (dk_at dksX2_byRank_1 16 rfl rfl)
abbrev cX2_fits : ByteArray := prog_24_method_64_code
def yX2_fits : MethodName := ⟨RX2, "fits", "(II)Z"⟩
def dkwX2_fits_2 : List UInt8 := [182, 0, 184, 153, 0, 7, 4, 167, 0, 4, 3, 62, 132, 4, 1, 167, 255, 204, 29, 172]
abbrev dktX2_fits_2 : List UInt8 := dkwX2_fits_2 ++ []
def dkwX2_fits_1 : List UInt8 := [28, 21, 4, 122, 4, 126, 153, 0, 22, 42, 21, 4, 182, 0, 181, 27, 160, 0, 12, 42, 21, 4]
abbrev dktX2_fits_1 : List UInt8 := dkwX2_fits_1 ++ dktX2_fits_2
def dkwX2_fits_0 : List UInt8 := [42, 27, 182, 0, 178, 62, 3, 54, 4, 21, 4, 42, 180, 0, 7, 4, 46, 162, 0, 47, 29, 153, 0, 43]
abbrev dktX2_fits_0 : List UInt8 := dkwX2_fits_0 ++ dktX2_fits_1
theorem dksX2_fits_0 : cX2_fits.data.toList.drop 0 = dktX2_fits_0 := by decide +kernel
theorem dksX2_fits_1 : cX2_fits.data.toList.drop 24 = dktX2_fits_1 := dk_seg dksX2_fits_0 24 rfl rfl
theorem dksX2_fits_2 : cX2_fits.data.toList.drop 46 = dktX2_fits_2 := dk_seg dksX2_fits_1 22 rfl rfl
theorem dX2_fits_0 : decode cX2_fits 0 = .ok (.aload_n 0, 1) := dk_42 (dk_at dksX2_fits_0 0 rfl rfl)
theorem dX2_fits_1 : decode cX2_fits 1 = .ok (.iload_n 1, 1) := dk_27 (dk_at dksX2_fits_0 1 rfl rfl)
theorem dX2_fits_2 : decode cX2_fits 2 = .ok (.invokevirtual 178, 3) := dk_182 0 178 (dk_at dksX2_fits_0 2 rfl rfl)
theorem dX2_fits_5 : decode cX2_fits 5 = .ok (.istore_n 3, 1) := dk_62 (dk_at dksX2_fits_0 5 rfl rfl)
theorem dX2_fits_6 : decode cX2_fits 6 = .ok (.iconst 0, 1) := dk_3 (dk_at dksX2_fits_0 6 rfl rfl)
theorem dX2_fits_7 : decode cX2_fits 7 = .ok (.istore 4, 2) := dk_54 4 (dk_at dksX2_fits_0 7 rfl rfl)
theorem dX2_fits_9 : decode cX2_fits 9 = .ok (.iload 4, 2) := dk_21 4 (dk_at dksX2_fits_0 9 rfl rfl)
theorem dX2_fits_11 : decode cX2_fits 11 = .ok (.aload_n 0, 1) := dk_42 (dk_at dksX2_fits_0 11 rfl rfl)
theorem dX2_fits_12 : decode cX2_fits 12 = .ok (.getfield 7, 3) := dk_180 0 7 (dk_at dksX2_fits_0 12 rfl rfl)
theorem dX2_fits_15 : decode cX2_fits 15 = .ok (.iconst 1, 1) := dk_4 (dk_at dksX2_fits_0 15 rfl rfl)
theorem dX2_fits_16 : decode cX2_fits 16 = .ok (.iaload, 1) := dk_46 (dk_at dksX2_fits_0 16 rfl rfl)
theorem dX2_fits_17 : decode cX2_fits 17 = .ok (.if_icmp .ge 47, 3) := dk_162 0 47 (dk_at dksX2_fits_0 17 rfl rfl)
theorem dX2_fits_20 : decode cX2_fits 20 = .ok (.iload_n 3, 1) := dk_29 (dk_at dksX2_fits_0 20 rfl rfl)
theorem dX2_fits_21 : decode cX2_fits 21 = .ok (.ifCond .eq 43, 3) := dk_153 0 43 (dk_at dksX2_fits_0 21 rfl rfl)
theorem dX2_fits_24 : decode cX2_fits 24 = .ok (.iload_n 2, 1) := dk_28 (dk_at dksX2_fits_1 0 rfl rfl)
theorem dX2_fits_25 : decode cX2_fits 25 = .ok (.iload 4, 2) := dk_21 4 (dk_at dksX2_fits_1 1 rfl rfl)
theorem dX2_fits_27 : decode cX2_fits 27 = .ok (.ishr, 1) := dk_122 (dk_at dksX2_fits_1 3 rfl rfl)
theorem dX2_fits_28 : decode cX2_fits 28 = .ok (.iconst 1, 1) := dk_4 (dk_at dksX2_fits_1 4 rfl rfl)
theorem dX2_fits_29 : decode cX2_fits 29 = .ok (.iand, 1) := dk_126 (dk_at dksX2_fits_1 5 rfl rfl)
theorem dX2_fits_30 : decode cX2_fits 30 = .ok (.ifCond .eq 22, 3) := dk_153 0 22 (dk_at dksX2_fits_1 6 rfl rfl)
theorem dX2_fits_33 : decode cX2_fits 33 = .ok (.aload_n 0, 1) := dk_42 (dk_at dksX2_fits_1 9 rfl rfl)
theorem dX2_fits_34 : decode cX2_fits 34 = .ok (.iload 4, 2) := dk_21 4 (dk_at dksX2_fits_1 10 rfl rfl)
theorem dX2_fits_36 : decode cX2_fits 36 = .ok (.invokevirtual 181, 3) := dk_182 0 181 (dk_at dksX2_fits_1 12 rfl rfl)
theorem dX2_fits_39 : decode cX2_fits 39 = .ok (.iload_n 1, 1) := dk_27 (dk_at dksX2_fits_1 15 rfl rfl)
theorem dX2_fits_40 : decode cX2_fits 40 = .ok (.if_icmp .ne 12, 3) := dk_160 0 12 (dk_at dksX2_fits_1 16 rfl rfl)
theorem dX2_fits_43 : decode cX2_fits 43 = .ok (.aload_n 0, 1) := dk_42 (dk_at dksX2_fits_1 19 rfl rfl)
theorem dX2_fits_44 : decode cX2_fits 44 = .ok (.iload 4, 2) := dk_21 4 (dk_at dksX2_fits_1 20 rfl rfl)
theorem dX2_fits_46 : decode cX2_fits 46 = .ok (.invokevirtual 184, 3) := dk_182 0 184 (dk_at dksX2_fits_2 0 rfl rfl)
theorem dX2_fits_49 : decode cX2_fits 49 = .ok (.ifCond .eq 7, 3) := dk_153 0 7 (dk_at dksX2_fits_2 3 rfl rfl)
theorem dX2_fits_52 : decode cX2_fits 52 = .ok (.iconst 1, 1) := dk_4 (dk_at dksX2_fits_2 6 rfl rfl)
theorem dX2_fits_53 : decode cX2_fits 53 = .ok (.goto 4, 3) := dk_167 0 4 (dk_at dksX2_fits_2 7 rfl rfl)
theorem dX2_fits_56 : decode cX2_fits 56 = .ok (.iconst 0, 1) := dk_3 (dk_at dksX2_fits_2 10 rfl rfl)
theorem dX2_fits_57 : decode cX2_fits 57 = .ok (.istore_n 3, 1) := dk_62 (dk_at dksX2_fits_2 11 rfl rfl)
theorem dX2_fits_58 : decode cX2_fits 58 = .ok (.iinc 4 1, 3) := dk_132 4 1 (dk_at dksX2_fits_2 12 rfl rfl)
theorem dX2_fits_61 : decode cX2_fits 61 = .ok (.goto (-52), 3) := dk_167 255 204 (dk_at dksX2_fits_2 15 rfl rfl)
theorem dX2_fits_64 : decode cX2_fits 64 = .ok (.iload_n 3, 1) := dk_29 (dk_at dksX2_fits_2 18 rfl rfl)
theorem dX2_fits_65 : decode cX2_fits 65 = .ok (.ireturn, 1) := dk_172 (dk_at dksX2_fits_2 19 rfl rfl)
abbrev cX2_isAsAssumed : ByteArray := prog_24_method_63_code
def yX2_isAsAssumed : MethodName := ⟨RX2, "isAsAssumed", "(I)Z"⟩
def dkwX2_isAsAssumed_2 : List UInt8 := [159, 0, 5, 3, 172, 132, 2, 1, 167, 255, 202, 4, 172]
abbrev dktX2_isAsAssumed_2 : List UInt8 := dkwX2_isAsAssumed_2 ++ []
def dkwX2_isAsAssumed_1 : List UInt8 := [27, 160, 0, 28, 42, 180, 0, 7, 17, 0, 225, 5, 28, 104, 96, 4, 96, 46, 42, 180, 0, 47, 27, 46]
abbrev dktX2_isAsAssumed_1 : List UInt8 := dkwX2_isAsAssumed_1 ++ dktX2_isAsAssumed_2
def dkwX2_isAsAssumed_0 : List UInt8 := [3, 61, 28, 42, 180, 0, 7, 5, 46, 162, 0, 50, 42, 180, 0, 7, 17, 0, 225, 5, 28, 104, 96, 46]
abbrev dktX2_isAsAssumed_0 : List UInt8 := dkwX2_isAsAssumed_0 ++ dktX2_isAsAssumed_1
theorem dksX2_isAsAssumed_0 : cX2_isAsAssumed.data.toList.drop 0 = dktX2_isAsAssumed_0 := by decide +kernel
theorem dksX2_isAsAssumed_1 : cX2_isAsAssumed.data.toList.drop 24 = dktX2_isAsAssumed_1 := dk_seg dksX2_isAsAssumed_0 24 rfl rfl
theorem dksX2_isAsAssumed_2 : cX2_isAsAssumed.data.toList.drop 48 = dktX2_isAsAssumed_2 := dk_seg dksX2_isAsAssumed_1 24 rfl rfl
theorem dX2_isAsAssumed_0 : decode cX2_isAsAssumed 0 = .ok (.iconst 0, 1) := dk_3 (dk_at dksX2_isAsAssumed_0 0 rfl rfl)
theorem dX2_isAsAssumed_1 : decode cX2_isAsAssumed 1 = .ok (.istore_n 2, 1) := dk_61 (dk_at dksX2_isAsAssumed_0 1 rfl rfl)
theorem dX2_isAsAssumed_2 : decode cX2_isAsAssumed 2 = .ok (.iload_n 2, 1) := dk_28 (dk_at dksX2_isAsAssumed_0 2 rfl rfl)
theorem dX2_isAsAssumed_3 : decode cX2_isAsAssumed 3 = .ok (.aload_n 0, 1) := dk_42 (dk_at dksX2_isAsAssumed_0 3 rfl rfl)
theorem dX2_isAsAssumed_4 : decode cX2_isAsAssumed 4 = .ok (.getfield 7, 3) := dk_180 0 7 (dk_at dksX2_isAsAssumed_0 4 rfl rfl)
theorem dX2_isAsAssumed_7 : decode cX2_isAsAssumed 7 = .ok (.iconst 2, 1) := dk_5 (dk_at dksX2_isAsAssumed_0 7 rfl rfl)
theorem dX2_isAsAssumed_8 : decode cX2_isAsAssumed 8 = .ok (.iaload, 1) := dk_46 (dk_at dksX2_isAsAssumed_0 8 rfl rfl)
theorem dX2_isAsAssumed_9 : decode cX2_isAsAssumed 9 = .ok (.if_icmp .ge 50, 3) := dk_162 0 50 (dk_at dksX2_isAsAssumed_0 9 rfl rfl)
theorem dX2_isAsAssumed_12 : decode cX2_isAsAssumed 12 = .ok (.aload_n 0, 1) := dk_42 (dk_at dksX2_isAsAssumed_0 12 rfl rfl)
theorem dX2_isAsAssumed_13 : decode cX2_isAsAssumed 13 = .ok (.getfield 7, 3) := dk_180 0 7 (dk_at dksX2_isAsAssumed_0 13 rfl rfl)
theorem dX2_isAsAssumed_16 : decode cX2_isAsAssumed 16 = .ok (.sipush 225, 3) := dk_17 0 225 (dk_at dksX2_isAsAssumed_0 16 rfl rfl)
theorem dX2_isAsAssumed_19 : decode cX2_isAsAssumed 19 = .ok (.iconst 2, 1) := dk_5 (dk_at dksX2_isAsAssumed_0 19 rfl rfl)
theorem dX2_isAsAssumed_20 : decode cX2_isAsAssumed 20 = .ok (.iload_n 2, 1) := dk_28 (dk_at dksX2_isAsAssumed_0 20 rfl rfl)
theorem dX2_isAsAssumed_21 : decode cX2_isAsAssumed 21 = .ok (.imul, 1) := dk_104 (dk_at dksX2_isAsAssumed_0 21 rfl rfl)
theorem dX2_isAsAssumed_22 : decode cX2_isAsAssumed 22 = .ok (.iadd, 1) := dk_96 (dk_at dksX2_isAsAssumed_0 22 rfl rfl)
theorem dX2_isAsAssumed_23 : decode cX2_isAsAssumed 23 = .ok (.iaload, 1) := dk_46 (dk_at dksX2_isAsAssumed_0 23 rfl rfl)
theorem dX2_isAsAssumed_24 : decode cX2_isAsAssumed 24 = .ok (.iload_n 1, 1) := dk_27 (dk_at dksX2_isAsAssumed_1 0 rfl rfl)
theorem dX2_isAsAssumed_25 : decode cX2_isAsAssumed 25 = .ok (.if_icmp .ne 28, 3) := dk_160 0 28 (dk_at dksX2_isAsAssumed_1 1 rfl rfl)
theorem dX2_isAsAssumed_28 : decode cX2_isAsAssumed 28 = .ok (.aload_n 0, 1) := dk_42 (dk_at dksX2_isAsAssumed_1 4 rfl rfl)
theorem dX2_isAsAssumed_29 : decode cX2_isAsAssumed 29 = .ok (.getfield 7, 3) := dk_180 0 7 (dk_at dksX2_isAsAssumed_1 5 rfl rfl)
theorem dX2_isAsAssumed_32 : decode cX2_isAsAssumed 32 = .ok (.sipush 225, 3) := dk_17 0 225 (dk_at dksX2_isAsAssumed_1 8 rfl rfl)
theorem dX2_isAsAssumed_35 : decode cX2_isAsAssumed 35 = .ok (.iconst 2, 1) := dk_5 (dk_at dksX2_isAsAssumed_1 11 rfl rfl)
theorem dX2_isAsAssumed_36 : decode cX2_isAsAssumed 36 = .ok (.iload_n 2, 1) := dk_28 (dk_at dksX2_isAsAssumed_1 12 rfl rfl)
theorem dX2_isAsAssumed_37 : decode cX2_isAsAssumed 37 = .ok (.imul, 1) := dk_104 (dk_at dksX2_isAsAssumed_1 13 rfl rfl)
theorem dX2_isAsAssumed_38 : decode cX2_isAsAssumed 38 = .ok (.iadd, 1) := dk_96 (dk_at dksX2_isAsAssumed_1 14 rfl rfl)
theorem dX2_isAsAssumed_39 : decode cX2_isAsAssumed 39 = .ok (.iconst 1, 1) := dk_4 (dk_at dksX2_isAsAssumed_1 15 rfl rfl)
theorem dX2_isAsAssumed_40 : decode cX2_isAsAssumed 40 = .ok (.iadd, 1) := dk_96 (dk_at dksX2_isAsAssumed_1 16 rfl rfl)
theorem dX2_isAsAssumed_41 : decode cX2_isAsAssumed 41 = .ok (.iaload, 1) := dk_46 (dk_at dksX2_isAsAssumed_1 17 rfl rfl)
theorem dX2_isAsAssumed_42 : decode cX2_isAsAssumed 42 = .ok (.aload_n 0, 1) := dk_42 (dk_at dksX2_isAsAssumed_1 18 rfl rfl)
theorem dX2_isAsAssumed_43 : decode cX2_isAsAssumed 43 = .ok (.getfield 47, 3) := dk_180 0 47 (dk_at dksX2_isAsAssumed_1 19 rfl rfl)
theorem dX2_isAsAssumed_46 : decode cX2_isAsAssumed 46 = .ok (.iload_n 1, 1) := dk_27 (dk_at dksX2_isAsAssumed_1 22 rfl rfl)
theorem dX2_isAsAssumed_47 : decode cX2_isAsAssumed 47 = .ok (.iaload, 1) := dk_46 (dk_at dksX2_isAsAssumed_1 23 rfl rfl)
theorem dX2_isAsAssumed_48 : decode cX2_isAsAssumed 48 = .ok (.if_icmp .eq 5, 3) := dk_159 0 5 (dk_at dksX2_isAsAssumed_2 0 rfl rfl)
theorem dX2_isAsAssumed_51 : decode cX2_isAsAssumed 51 = .ok (.iconst 0, 1) := dk_3 (dk_at dksX2_isAsAssumed_2 3 rfl rfl)
theorem dX2_isAsAssumed_52 : decode cX2_isAsAssumed 52 = .ok (.ireturn, 1) := dk_172 (dk_at dksX2_isAsAssumed_2 4 rfl rfl)
theorem dX2_isAsAssumed_53 : decode cX2_isAsAssumed 53 = .ok (.iinc 2 1, 3) := dk_132 2 1 (dk_at dksX2_isAsAssumed_2 5 rfl rfl)
theorem dX2_isAsAssumed_56 : decode cX2_isAsAssumed 56 = .ok (.goto (-54), 3) := dk_167 255 202 (dk_at dksX2_isAsAssumed_2 8 rfl rfl)
theorem dX2_isAsAssumed_59 : decode cX2_isAsAssumed 59 = .ok (.iconst 1, 1) := dk_4 (dk_at dksX2_isAsAssumed_2 11 rfl rfl)
theorem dX2_isAsAssumed_60 : decode cX2_isAsAssumed 60 = .ok (.ireturn, 1) := dk_172 (dk_at dksX2_isAsAssumed_2 12 rfl rfl)
abbrev cX2_lastPack : ByteArray := prog_24_method_61_code
def yX2_lastPack : MethodName := ⟨RX2, "lastPack", "(I)I"⟩
def dkwX2_lastPack_2 : List UInt8 := [164, 0, 12, 42, 27, 4, 182, 0, 87, 167, 0, 9, 42, 27, 6, 182, 0, 87, 172]
abbrev dktX2_lastPack_2 : List UInt8 := dkwX2_lastPack_2 ++ []
def dkwX2_lastPack_1 : List UInt8 := [132, 3, 255, 167, 255, 243, 29, 172, 28, 153, 0, 18, 42, 27, 4, 182, 0, 87, 42, 27, 6, 182, 0, 87]
abbrev dktX2_lastPack_1 : List UInt8 := dkwX2_lastPack_1 ++ dktX2_lastPack_2
def dkwX2_lastPack_0 : List UInt8 := [42, 27, 3, 182, 0, 87, 61, 28, 6, 160, 0, 23, 8, 62, 42, 27, 29, 182, 0, 120, 2, 160, 0, 9]
abbrev dktX2_lastPack_0 : List UInt8 := dkwX2_lastPack_0 ++ dktX2_lastPack_1
theorem dksX2_lastPack_0 : cX2_lastPack.data.toList.drop 0 = dktX2_lastPack_0 := by decide +kernel
theorem dksX2_lastPack_1 : cX2_lastPack.data.toList.drop 24 = dktX2_lastPack_1 := dk_seg dksX2_lastPack_0 24 rfl rfl
theorem dksX2_lastPack_2 : cX2_lastPack.data.toList.drop 48 = dktX2_lastPack_2 := dk_seg dksX2_lastPack_1 24 rfl rfl
theorem dX2_lastPack_0 : decode cX2_lastPack 0 = .ok (.aload_n 0, 1) := dk_42 (dk_at dksX2_lastPack_0 0 rfl rfl)
theorem dX2_lastPack_1 : decode cX2_lastPack 1 = .ok (.iload_n 1, 1) := dk_27 (dk_at dksX2_lastPack_0 1 rfl rfl)
theorem dX2_lastPack_2 : decode cX2_lastPack 2 = .ok (.iconst 0, 1) := dk_3 (dk_at dksX2_lastPack_0 2 rfl rfl)
theorem dX2_lastPack_3 : decode cX2_lastPack 3 = .ok (.invokevirtual 87, 3) := dk_182 0 87 (dk_at dksX2_lastPack_0 3 rfl rfl)
theorem dX2_lastPack_6 : decode cX2_lastPack 6 = .ok (.istore_n 2, 1) := dk_61 (dk_at dksX2_lastPack_0 6 rfl rfl)
theorem dX2_lastPack_7 : decode cX2_lastPack 7 = .ok (.iload_n 2, 1) := dk_28 (dk_at dksX2_lastPack_0 7 rfl rfl)
theorem dX2_lastPack_8 : decode cX2_lastPack 8 = .ok (.iconst 3, 1) := dk_6 (dk_at dksX2_lastPack_0 8 rfl rfl)
theorem dX2_lastPack_9 : decode cX2_lastPack 9 = .ok (.if_icmp .ne 23, 3) := dk_160 0 23 (dk_at dksX2_lastPack_0 9 rfl rfl)
theorem dX2_lastPack_12 : decode cX2_lastPack 12 = .ok (.iconst 5, 1) := dk_8 (dk_at dksX2_lastPack_0 12 rfl rfl)
theorem dX2_lastPack_13 : decode cX2_lastPack 13 = .ok (.istore_n 3, 1) := dk_62 (dk_at dksX2_lastPack_0 13 rfl rfl)
theorem dX2_lastPack_14 : decode cX2_lastPack 14 = .ok (.aload_n 0, 1) := dk_42 (dk_at dksX2_lastPack_0 14 rfl rfl)
theorem dX2_lastPack_15 : decode cX2_lastPack 15 = .ok (.iload_n 1, 1) := dk_27 (dk_at dksX2_lastPack_0 15 rfl rfl)
theorem dX2_lastPack_16 : decode cX2_lastPack 16 = .ok (.iload_n 3, 1) := dk_29 (dk_at dksX2_lastPack_0 16 rfl rfl)
theorem dX2_lastPack_17 : decode cX2_lastPack 17 = .ok (.invokevirtual 120, 3) := dk_182 0 120 (dk_at dksX2_lastPack_0 17 rfl rfl)
theorem dX2_lastPack_20 : decode cX2_lastPack 20 = .ok (.iconst (-1), 1) := dk_2 (dk_at dksX2_lastPack_0 20 rfl rfl)
theorem dX2_lastPack_21 : decode cX2_lastPack 21 = .ok (.if_icmp .ne 9, 3) := dk_160 0 9 (dk_at dksX2_lastPack_0 21 rfl rfl)
theorem dX2_lastPack_24 : decode cX2_lastPack 24 = .ok (.iinc 3 (-1), 3) := dk_132 3 255 (dk_at dksX2_lastPack_1 0 rfl rfl)
theorem dX2_lastPack_27 : decode cX2_lastPack 27 = .ok (.goto (-13), 3) := dk_167 255 243 (dk_at dksX2_lastPack_1 3 rfl rfl)
theorem dX2_lastPack_30 : decode cX2_lastPack 30 = .ok (.iload_n 3, 1) := dk_29 (dk_at dksX2_lastPack_1 6 rfl rfl)
theorem dX2_lastPack_31 : decode cX2_lastPack 31 = .ok (.ireturn, 1) := dk_172 (dk_at dksX2_lastPack_1 7 rfl rfl)
theorem dX2_lastPack_32 : decode cX2_lastPack 32 = .ok (.iload_n 2, 1) := dk_28 (dk_at dksX2_lastPack_1 8 rfl rfl)
theorem dX2_lastPack_33 : decode cX2_lastPack 33 = .ok (.ifCond .eq 18, 3) := dk_153 0 18 (dk_at dksX2_lastPack_1 9 rfl rfl)
theorem dX2_lastPack_36 : decode cX2_lastPack 36 = .ok (.aload_n 0, 1) := dk_42 (dk_at dksX2_lastPack_1 12 rfl rfl)
theorem dX2_lastPack_37 : decode cX2_lastPack 37 = .ok (.iload_n 1, 1) := dk_27 (dk_at dksX2_lastPack_1 13 rfl rfl)
theorem dX2_lastPack_38 : decode cX2_lastPack 38 = .ok (.iconst 1, 1) := dk_4 (dk_at dksX2_lastPack_1 14 rfl rfl)
theorem dX2_lastPack_39 : decode cX2_lastPack 39 = .ok (.invokevirtual 87, 3) := dk_182 0 87 (dk_at dksX2_lastPack_1 15 rfl rfl)
theorem dX2_lastPack_42 : decode cX2_lastPack 42 = .ok (.aload_n 0, 1) := dk_42 (dk_at dksX2_lastPack_1 18 rfl rfl)
theorem dX2_lastPack_43 : decode cX2_lastPack 43 = .ok (.iload_n 1, 1) := dk_27 (dk_at dksX2_lastPack_1 19 rfl rfl)
theorem dX2_lastPack_44 : decode cX2_lastPack 44 = .ok (.iconst 3, 1) := dk_6 (dk_at dksX2_lastPack_1 20 rfl rfl)
theorem dX2_lastPack_45 : decode cX2_lastPack 45 = .ok (.invokevirtual 87, 3) := dk_182 0 87 (dk_at dksX2_lastPack_1 21 rfl rfl)
theorem dX2_lastPack_48 : decode cX2_lastPack 48 = .ok (.if_icmp .le 12, 3) := dk_164 0 12 (dk_at dksX2_lastPack_2 0 rfl rfl)
theorem dX2_lastPack_51 : decode cX2_lastPack 51 = .ok (.aload_n 0, 1) := dk_42 (dk_at dksX2_lastPack_2 3 rfl rfl)
theorem dX2_lastPack_52 : decode cX2_lastPack 52 = .ok (.iload_n 1, 1) := dk_27 (dk_at dksX2_lastPack_2 4 rfl rfl)
theorem dX2_lastPack_53 : decode cX2_lastPack 53 = .ok (.iconst 1, 1) := dk_4 (dk_at dksX2_lastPack_2 5 rfl rfl)
theorem dX2_lastPack_54 : decode cX2_lastPack 54 = .ok (.invokevirtual 87, 3) := dk_182 0 87 (dk_at dksX2_lastPack_2 6 rfl rfl)
theorem dX2_lastPack_57 : decode cX2_lastPack 57 = .ok (.goto 9, 3) := dk_167 0 9 (dk_at dksX2_lastPack_2 9 rfl rfl)
theorem dX2_lastPack_60 : decode cX2_lastPack 60 = .ok (.aload_n 0, 1) := dk_42 (dk_at dksX2_lastPack_2 12 rfl rfl)
theorem dX2_lastPack_61 : decode cX2_lastPack 61 = .ok (.iload_n 1, 1) := dk_27 (dk_at dksX2_lastPack_2 13 rfl rfl)
theorem dX2_lastPack_62 : decode cX2_lastPack 62 = .ok (.iconst 3, 1) := dk_6 (dk_at dksX2_lastPack_2 14 rfl rfl)
theorem dX2_lastPack_63 : decode cX2_lastPack 63 = .ok (.invokevirtual 87, 3) := dk_182 0 87 (dk_at dksX2_lastPack_2 15 rfl rfl)
theorem dX2_lastPack_66 : decode cX2_lastPack 66 = .ok (.ireturn, 1) := dk_172 (dk_at dksX2_lastPack_2 18 rfl rfl)
abbrev cX2_holds : ByteArray := prog_24_method_60_code
def yX2_holds : MethodName := ⟨RX2, "holds", "(I)Z"⟩
def dkwX2_holds_6 : List UInt8 := [160, 0, 18, 21, 4, 28, 4, 160, 0, 7, 4, 167, 0, 4, 3, 160, 0, 7, 4, 167, 0, 4, 3, 172]
abbrev dktX2_holds_6 : List UInt8 := dkwX2_holds_6 ++ []
def dkwX2_holds_5 : List UInt8 := [21, 4, 167, 0, 43, 42, 180, 0, 47, 42, 27, 4, 182, 0, 87, 46, 42, 27, 5, 182, 0, 87]
abbrev dktX2_holds_5 : List UInt8 := dkwX2_holds_5 ++ dktX2_holds_6
def dkwX2_holds_4 : List UInt8 := [180, 0, 47, 29, 46, 122, 4, 126, 4, 160, 0, 7, 4, 167, 0, 4, 3, 54, 4, 28, 154, 0, 8]
abbrev dktX2_holds_4 : List UInt8 := dkwX2_holds_4 ++ dktX2_holds_5
def dkwX2_holds_3 : List UInt8 := [167, 0, 9, 42, 27, 6, 182, 0, 87, 62, 42, 29, 42, 27, 7, 182, 0, 87, 182, 0, 103, 42]
abbrev dktX2_holds_3 : List UInt8 := dkwX2_holds_3 ++ dktX2_holds_4
def dkwX2_holds_2 : List UInt8 := [159, 0, 5, 4, 172, 132, 3, 1, 167, 255, 216, 3, 172, 28, 154, 0, 12, 42, 27, 4, 182, 0, 87]
abbrev dktX2_holds_2 : List UInt8 := dkwX2_holds_2 ++ dktX2_holds_3
def dkwX2_holds_1 : List UInt8 := [42, 27, 29, 182, 0, 120, 2, 159, 0, 20, 42, 27, 29, 182, 0, 120, 42, 180, 0, 47, 29, 46]
abbrev dktX2_holds_1 : List UInt8 := dkwX2_holds_1 ++ dktX2_holds_2
def dkwX2_holds_0 : List UInt8 := [42, 27, 3, 182, 0, 87, 61, 28, 6, 160, 0, 50, 3, 62, 29, 42, 180, 0, 7, 3, 46, 162, 0, 36]
abbrev dktX2_holds_0 : List UInt8 := dkwX2_holds_0 ++ dktX2_holds_1
theorem dksX2_holds_0 : cX2_holds.data.toList.drop 0 = dktX2_holds_0 := by decide +kernel
theorem dksX2_holds_1 : cX2_holds.data.toList.drop 24 = dktX2_holds_1 := dk_seg dksX2_holds_0 24 rfl rfl
theorem dksX2_holds_2 : cX2_holds.data.toList.drop 46 = dktX2_holds_2 := dk_seg dksX2_holds_1 22 rfl rfl
theorem dksX2_holds_3 : cX2_holds.data.toList.drop 69 = dktX2_holds_3 := dk_seg dksX2_holds_2 23 rfl rfl
theorem dksX2_holds_4 : cX2_holds.data.toList.drop 91 = dktX2_holds_4 := dk_seg dksX2_holds_3 22 rfl rfl
theorem dksX2_holds_5 : cX2_holds.data.toList.drop 114 = dktX2_holds_5 := dk_seg dksX2_holds_4 23 rfl rfl
theorem dksX2_holds_6 : cX2_holds.data.toList.drop 136 = dktX2_holds_6 := dk_seg dksX2_holds_5 22 rfl rfl
theorem dX2_holds_0 : decode cX2_holds 0 = .ok (.aload_n 0, 1) := dk_42 (dk_at dksX2_holds_0 0 rfl rfl)
theorem dX2_holds_1 : decode cX2_holds 1 = .ok (.iload_n 1, 1) := dk_27 (dk_at dksX2_holds_0 1 rfl rfl)
theorem dX2_holds_2 : decode cX2_holds 2 = .ok (.iconst 0, 1) := dk_3 (dk_at dksX2_holds_0 2 rfl rfl)
theorem dX2_holds_3 : decode cX2_holds 3 = .ok (.invokevirtual 87, 3) := dk_182 0 87 (dk_at dksX2_holds_0 3 rfl rfl)
theorem dX2_holds_6 : decode cX2_holds 6 = .ok (.istore_n 2, 1) := dk_61 (dk_at dksX2_holds_0 6 rfl rfl)
theorem dX2_holds_7 : decode cX2_holds 7 = .ok (.iload_n 2, 1) := dk_28 (dk_at dksX2_holds_0 7 rfl rfl)
theorem dX2_holds_8 : decode cX2_holds 8 = .ok (.iconst 3, 1) := dk_6 (dk_at dksX2_holds_0 8 rfl rfl)
theorem dX2_holds_9 : decode cX2_holds 9 = .ok (.if_icmp .ne 50, 3) := dk_160 0 50 (dk_at dksX2_holds_0 9 rfl rfl)
theorem dX2_holds_12 : decode cX2_holds 12 = .ok (.iconst 0, 1) := dk_3 (dk_at dksX2_holds_0 12 rfl rfl)
theorem dX2_holds_13 : decode cX2_holds 13 = .ok (.istore_n 3, 1) := dk_62 (dk_at dksX2_holds_0 13 rfl rfl)
theorem dX2_holds_14 : decode cX2_holds 14 = .ok (.iload_n 3, 1) := dk_29 (dk_at dksX2_holds_0 14 rfl rfl)
theorem dX2_holds_15 : decode cX2_holds 15 = .ok (.aload_n 0, 1) := dk_42 (dk_at dksX2_holds_0 15 rfl rfl)
theorem dX2_holds_16 : decode cX2_holds 16 = .ok (.getfield 7, 3) := dk_180 0 7 (dk_at dksX2_holds_0 16 rfl rfl)
theorem dX2_holds_19 : decode cX2_holds 19 = .ok (.iconst 0, 1) := dk_3 (dk_at dksX2_holds_0 19 rfl rfl)
theorem dX2_holds_20 : decode cX2_holds 20 = .ok (.iaload, 1) := dk_46 (dk_at dksX2_holds_0 20 rfl rfl)
theorem dX2_holds_21 : decode cX2_holds 21 = .ok (.if_icmp .ge 36, 3) := dk_162 0 36 (dk_at dksX2_holds_0 21 rfl rfl)
theorem dX2_holds_24 : decode cX2_holds 24 = .ok (.aload_n 0, 1) := dk_42 (dk_at dksX2_holds_1 0 rfl rfl)
theorem dX2_holds_25 : decode cX2_holds 25 = .ok (.iload_n 1, 1) := dk_27 (dk_at dksX2_holds_1 1 rfl rfl)
theorem dX2_holds_26 : decode cX2_holds 26 = .ok (.iload_n 3, 1) := dk_29 (dk_at dksX2_holds_1 2 rfl rfl)
theorem dX2_holds_27 : decode cX2_holds 27 = .ok (.invokevirtual 120, 3) := dk_182 0 120 (dk_at dksX2_holds_1 3 rfl rfl)
theorem dX2_holds_30 : decode cX2_holds 30 = .ok (.iconst (-1), 1) := dk_2 (dk_at dksX2_holds_1 6 rfl rfl)
theorem dX2_holds_31 : decode cX2_holds 31 = .ok (.if_icmp .eq 20, 3) := dk_159 0 20 (dk_at dksX2_holds_1 7 rfl rfl)
theorem dX2_holds_34 : decode cX2_holds 34 = .ok (.aload_n 0, 1) := dk_42 (dk_at dksX2_holds_1 10 rfl rfl)
theorem dX2_holds_35 : decode cX2_holds 35 = .ok (.iload_n 1, 1) := dk_27 (dk_at dksX2_holds_1 11 rfl rfl)
theorem dX2_holds_36 : decode cX2_holds 36 = .ok (.iload_n 3, 1) := dk_29 (dk_at dksX2_holds_1 12 rfl rfl)
theorem dX2_holds_37 : decode cX2_holds 37 = .ok (.invokevirtual 120, 3) := dk_182 0 120 (dk_at dksX2_holds_1 13 rfl rfl)
theorem dX2_holds_40 : decode cX2_holds 40 = .ok (.aload_n 0, 1) := dk_42 (dk_at dksX2_holds_1 16 rfl rfl)
theorem dX2_holds_41 : decode cX2_holds 41 = .ok (.getfield 47, 3) := dk_180 0 47 (dk_at dksX2_holds_1 17 rfl rfl)
theorem dX2_holds_44 : decode cX2_holds 44 = .ok (.iload_n 3, 1) := dk_29 (dk_at dksX2_holds_1 20 rfl rfl)
theorem dX2_holds_45 : decode cX2_holds 45 = .ok (.iaload, 1) := dk_46 (dk_at dksX2_holds_1 21 rfl rfl)
theorem dX2_holds_46 : decode cX2_holds 46 = .ok (.if_icmp .eq 5, 3) := dk_159 0 5 (dk_at dksX2_holds_2 0 rfl rfl)
theorem dX2_holds_49 : decode cX2_holds 49 = .ok (.iconst 1, 1) := dk_4 (dk_at dksX2_holds_2 3 rfl rfl)
theorem dX2_holds_50 : decode cX2_holds 50 = .ok (.ireturn, 1) := dk_172 (dk_at dksX2_holds_2 4 rfl rfl)
theorem dX2_holds_51 : decode cX2_holds 51 = .ok (.iinc 3 1, 3) := dk_132 3 1 (dk_at dksX2_holds_2 5 rfl rfl)
theorem dX2_holds_54 : decode cX2_holds 54 = .ok (.goto (-40), 3) := dk_167 255 216 (dk_at dksX2_holds_2 8 rfl rfl)
theorem dX2_holds_57 : decode cX2_holds 57 = .ok (.iconst 0, 1) := dk_3 (dk_at dksX2_holds_2 11 rfl rfl)
theorem dX2_holds_58 : decode cX2_holds 58 = .ok (.ireturn, 1) := dk_172 (dk_at dksX2_holds_2 12 rfl rfl)
theorem dX2_holds_59 : decode cX2_holds 59 = .ok (.iload_n 2, 1) := dk_28 (dk_at dksX2_holds_2 13 rfl rfl)
theorem dX2_holds_60 : decode cX2_holds 60 = .ok (.ifCond .ne 12, 3) := dk_154 0 12 (dk_at dksX2_holds_2 14 rfl rfl)
theorem dX2_holds_63 : decode cX2_holds 63 = .ok (.aload_n 0, 1) := dk_42 (dk_at dksX2_holds_2 17 rfl rfl)
theorem dX2_holds_64 : decode cX2_holds 64 = .ok (.iload_n 1, 1) := dk_27 (dk_at dksX2_holds_2 18 rfl rfl)
theorem dX2_holds_65 : decode cX2_holds 65 = .ok (.iconst 1, 1) := dk_4 (dk_at dksX2_holds_2 19 rfl rfl)
theorem dX2_holds_66 : decode cX2_holds 66 = .ok (.invokevirtual 87, 3) := dk_182 0 87 (dk_at dksX2_holds_2 20 rfl rfl)
theorem dX2_holds_69 : decode cX2_holds 69 = .ok (.goto 9, 3) := dk_167 0 9 (dk_at dksX2_holds_3 0 rfl rfl)
theorem dX2_holds_72 : decode cX2_holds 72 = .ok (.aload_n 0, 1) := dk_42 (dk_at dksX2_holds_3 3 rfl rfl)
theorem dX2_holds_73 : decode cX2_holds 73 = .ok (.iload_n 1, 1) := dk_27 (dk_at dksX2_holds_3 4 rfl rfl)
theorem dX2_holds_74 : decode cX2_holds 74 = .ok (.iconst 3, 1) := dk_6 (dk_at dksX2_holds_3 5 rfl rfl)
theorem dX2_holds_75 : decode cX2_holds 75 = .ok (.invokevirtual 87, 3) := dk_182 0 87 (dk_at dksX2_holds_3 6 rfl rfl)
theorem dX2_holds_78 : decode cX2_holds 78 = .ok (.istore_n 3, 1) := dk_62 (dk_at dksX2_holds_3 9 rfl rfl)
theorem dX2_holds_79 : decode cX2_holds 79 = .ok (.aload_n 0, 1) := dk_42 (dk_at dksX2_holds_3 10 rfl rfl)
theorem dX2_holds_80 : decode cX2_holds 80 = .ok (.iload_n 3, 1) := dk_29 (dk_at dksX2_holds_3 11 rfl rfl)
theorem dX2_holds_81 : decode cX2_holds 81 = .ok (.aload_n 0, 1) := dk_42 (dk_at dksX2_holds_3 12 rfl rfl)
theorem dX2_holds_82 : decode cX2_holds 82 = .ok (.iload_n 1, 1) := dk_27 (dk_at dksX2_holds_3 13 rfl rfl)
theorem dX2_holds_83 : decode cX2_holds 83 = .ok (.iconst 4, 1) := dk_7 (dk_at dksX2_holds_3 14 rfl rfl)
theorem dX2_holds_84 : decode cX2_holds 84 = .ok (.invokevirtual 87, 3) := dk_182 0 87 (dk_at dksX2_holds_3 15 rfl rfl)
theorem dX2_holds_87 : decode cX2_holds 87 = .ok (.invokevirtual 103, 3) := dk_182 0 103 (dk_at dksX2_holds_3 18 rfl rfl)
theorem dX2_holds_90 : decode cX2_holds 90 = .ok (.aload_n 0, 1) := dk_42 (dk_at dksX2_holds_3 21 rfl rfl)
theorem dX2_holds_91 : decode cX2_holds 91 = .ok (.getfield 47, 3) := dk_180 0 47 (dk_at dksX2_holds_4 0 rfl rfl)
theorem dX2_holds_94 : decode cX2_holds 94 = .ok (.iload_n 3, 1) := dk_29 (dk_at dksX2_holds_4 3 rfl rfl)
theorem dX2_holds_95 : decode cX2_holds 95 = .ok (.iaload, 1) := dk_46 (dk_at dksX2_holds_4 4 rfl rfl)
theorem dX2_holds_96 : decode cX2_holds 96 = .ok (.ishr, 1) := dk_122 (dk_at dksX2_holds_4 5 rfl rfl)
theorem dX2_holds_97 : decode cX2_holds 97 = .ok (.iconst 1, 1) := dk_4 (dk_at dksX2_holds_4 6 rfl rfl)
theorem dX2_holds_98 : decode cX2_holds 98 = .ok (.iand, 1) := dk_126 (dk_at dksX2_holds_4 7 rfl rfl)
theorem dX2_holds_99 : decode cX2_holds 99 = .ok (.iconst 1, 1) := dk_4 (dk_at dksX2_holds_4 8 rfl rfl)
theorem dX2_holds_100 : decode cX2_holds 100 = .ok (.if_icmp .ne 7, 3) := dk_160 0 7 (dk_at dksX2_holds_4 9 rfl rfl)
theorem dX2_holds_103 : decode cX2_holds 103 = .ok (.iconst 1, 1) := dk_4 (dk_at dksX2_holds_4 12 rfl rfl)
theorem dX2_holds_104 : decode cX2_holds 104 = .ok (.goto 4, 3) := dk_167 0 4 (dk_at dksX2_holds_4 13 rfl rfl)
theorem dX2_holds_107 : decode cX2_holds 107 = .ok (.iconst 0, 1) := dk_3 (dk_at dksX2_holds_4 16 rfl rfl)
theorem dX2_holds_108 : decode cX2_holds 108 = .ok (.istore 4, 2) := dk_54 4 (dk_at dksX2_holds_4 17 rfl rfl)
theorem dX2_holds_110 : decode cX2_holds 110 = .ok (.iload_n 2, 1) := dk_28 (dk_at dksX2_holds_4 19 rfl rfl)
theorem dX2_holds_111 : decode cX2_holds 111 = .ok (.ifCond .ne 8, 3) := dk_154 0 8 (dk_at dksX2_holds_4 20 rfl rfl)
theorem dX2_holds_114 : decode cX2_holds 114 = .ok (.iload 4, 2) := dk_21 4 (dk_at dksX2_holds_5 0 rfl rfl)
theorem dX2_holds_116 : decode cX2_holds 116 = .ok (.goto 43, 3) := dk_167 0 43 (dk_at dksX2_holds_5 2 rfl rfl)
theorem dX2_holds_119 : decode cX2_holds 119 = .ok (.aload_n 0, 1) := dk_42 (dk_at dksX2_holds_5 5 rfl rfl)
theorem dX2_holds_120 : decode cX2_holds 120 = .ok (.getfield 47, 3) := dk_180 0 47 (dk_at dksX2_holds_5 6 rfl rfl)
theorem dX2_holds_123 : decode cX2_holds 123 = .ok (.aload_n 0, 1) := dk_42 (dk_at dksX2_holds_5 9 rfl rfl)
theorem dX2_holds_124 : decode cX2_holds 124 = .ok (.iload_n 1, 1) := dk_27 (dk_at dksX2_holds_5 10 rfl rfl)
theorem dX2_holds_125 : decode cX2_holds 125 = .ok (.iconst 1, 1) := dk_4 (dk_at dksX2_holds_5 11 rfl rfl)
theorem dX2_holds_126 : decode cX2_holds 126 = .ok (.invokevirtual 87, 3) := dk_182 0 87 (dk_at dksX2_holds_5 12 rfl rfl)
theorem dX2_holds_129 : decode cX2_holds 129 = .ok (.iaload, 1) := dk_46 (dk_at dksX2_holds_5 15 rfl rfl)
theorem dX2_holds_130 : decode cX2_holds 130 = .ok (.aload_n 0, 1) := dk_42 (dk_at dksX2_holds_5 16 rfl rfl)
theorem dX2_holds_131 : decode cX2_holds 131 = .ok (.iload_n 1, 1) := dk_27 (dk_at dksX2_holds_5 17 rfl rfl)
theorem dX2_holds_132 : decode cX2_holds 132 = .ok (.iconst 2, 1) := dk_5 (dk_at dksX2_holds_5 18 rfl rfl)
theorem dX2_holds_133 : decode cX2_holds 133 = .ok (.invokevirtual 87, 3) := dk_182 0 87 (dk_at dksX2_holds_5 19 rfl rfl)
theorem dX2_holds_136 : decode cX2_holds 136 = .ok (.if_icmp .ne 18, 3) := dk_160 0 18 (dk_at dksX2_holds_6 0 rfl rfl)
theorem dX2_holds_139 : decode cX2_holds 139 = .ok (.iload 4, 2) := dk_21 4 (dk_at dksX2_holds_6 3 rfl rfl)
theorem dX2_holds_141 : decode cX2_holds 141 = .ok (.iload_n 2, 1) := dk_28 (dk_at dksX2_holds_6 5 rfl rfl)
theorem dX2_holds_142 : decode cX2_holds 142 = .ok (.iconst 1, 1) := dk_4 (dk_at dksX2_holds_6 6 rfl rfl)
theorem dX2_holds_143 : decode cX2_holds 143 = .ok (.if_icmp .ne 7, 3) := dk_160 0 7 (dk_at dksX2_holds_6 7 rfl rfl)
theorem dX2_holds_146 : decode cX2_holds 146 = .ok (.iconst 1, 1) := dk_4 (dk_at dksX2_holds_6 10 rfl rfl)
theorem dX2_holds_147 : decode cX2_holds 147 = .ok (.goto 4, 3) := dk_167 0 4 (dk_at dksX2_holds_6 11 rfl rfl)
theorem dX2_holds_150 : decode cX2_holds 150 = .ok (.iconst 0, 1) := dk_3 (dk_at dksX2_holds_6 14 rfl rfl)
theorem dX2_holds_151 : decode cX2_holds 151 = .ok (.if_icmp .ne 7, 3) := dk_160 0 7 (dk_at dksX2_holds_6 15 rfl rfl)
theorem dX2_holds_154 : decode cX2_holds 154 = .ok (.iconst 1, 1) := dk_4 (dk_at dksX2_holds_6 18 rfl rfl)
theorem dX2_holds_155 : decode cX2_holds 155 = .ok (.goto 4, 3) := dk_167 0 4 (dk_at dksX2_holds_6 19 rfl rfl)
theorem dX2_holds_158 : decode cX2_holds 158 = .ok (.iconst 0, 1) := dk_3 (dk_at dksX2_holds_6 22 rfl rfl)
theorem dX2_holds_159 : decode cX2_holds 159 = .ok (.ireturn, 1) := dk_172 (dk_at dksX2_holds_6 23 rfl rfl)
abbrev cX2_best : ByteArray := prog_24_method_69_code
def yX2_best : MethodName := ⟨RX2, "best", "(I)I"⟩
def dkwX2_best_1 : List UInt8 := [167, 0, 9, 42, 180, 0, 50, 27, 46, 172]
abbrev dktX2_best_1 : List UInt8 := dkwX2_best_1 ++ []
def dkwX2_best_0 : List UInt8 := [42, 27, 182, 0, 63, 154, 0, 5, 2, 172, 42, 18, 202, 4, 182, 0, 204, 154, 0, 8, 16, 253]
abbrev dktX2_best_0 : List UInt8 := dkwX2_best_0 ++ dktX2_best_1
theorem dksX2_best_0 : cX2_best.data.toList.drop 0 = dktX2_best_0 := by decide +kernel
theorem dksX2_best_1 : cX2_best.data.toList.drop 22 = dktX2_best_1 := dk_seg dksX2_best_0 22 rfl rfl
theorem dX2_best_0 : decode cX2_best 0 = .ok (.aload_n 0, 1) := dk_42 (dk_at dksX2_best_0 0 rfl rfl)
theorem dX2_best_1 : decode cX2_best 1 = .ok (.iload_n 1, 1) := dk_27 (dk_at dksX2_best_0 1 rfl rfl)
theorem dX2_best_2 : decode cX2_best 2 = .ok (.invokevirtual 63, 3) := dk_182 0 63 (dk_at dksX2_best_0 2 rfl rfl)
theorem dX2_best_5 : decode cX2_best 5 = .ok (.ifCond .ne 5, 3) := dk_154 0 5 (dk_at dksX2_best_0 5 rfl rfl)
theorem dX2_best_8 : decode cX2_best 8 = .ok (.iconst (-1), 1) := dk_2 (dk_at dksX2_best_0 8 rfl rfl)
theorem dX2_best_9 : decode cX2_best 9 = .ok (.ireturn, 1) := dk_172 (dk_at dksX2_best_0 9 rfl rfl)
theorem dX2_best_10 : decode cX2_best 10 = .ok (.aload_n 0, 1) := dk_42 (dk_at dksX2_best_0 10 rfl rfl)
theorem dX2_best_11 : decode cX2_best 11 = .ok (.ldc 202, 2) := dk_18 202 (dk_at dksX2_best_0 11 rfl rfl)
theorem dX2_best_13 : decode cX2_best 13 = .ok (.iconst 1, 1) := dk_4 (dk_at dksX2_best_0 13 rfl rfl)
theorem dX2_best_14 : decode cX2_best 14 = .ok (.invokevirtual 204, 3) := dk_182 0 204 (dk_at dksX2_best_0 14 rfl rfl)
theorem dX2_best_17 : decode cX2_best 17 = .ok (.ifCond .ne 8, 3) := dk_154 0 8 (dk_at dksX2_best_0 17 rfl rfl)
theorem dX2_best_20 : decode cX2_best 20 = .ok (.bipush (-3), 2) := dk_16 253 (dk_at dksX2_best_0 20 rfl rfl)
theorem dX2_best_22 : decode cX2_best 22 = .ok (.goto 9, 3) := dk_167 0 9 (dk_at dksX2_best_1 0 rfl rfl)
theorem dX2_best_25 : decode cX2_best 25 = .ok (.aload_n 0, 1) := dk_42 (dk_at dksX2_best_1 3 rfl rfl)
theorem dX2_best_26 : decode cX2_best 26 = .ok (.getfield 50, 3) := dk_180 0 50 (dk_at dksX2_best_1 4 rfl rfl)
theorem dX2_best_29 : decode cX2_best 29 = .ok (.iload_n 1, 1) := dk_27 (dk_at dksX2_best_1 7 rfl rfl)
theorem dX2_best_30 : decode cX2_best 30 = .ok (.iaload, 1) := dk_46 (dk_at dksX2_best_1 8 rfl rfl)
theorem dX2_best_31 : decode cX2_best 31 = .ok (.ireturn, 1) := dk_172 (dk_at dksX2_best_1 9 rfl rfl)
abbrev cX2_hinders : ByteArray := prog_24_method_70_code
def yX2_hinders : MethodName := ⟨RX2, "hinders", "(I)I"⟩
def dkwX2_hinders_8 : List UInt8 := [182, 0, 187, 54, 4, 21, 4, 2, 160, 0, 8, 16, 251, 167, 0, 9, 17, 0, 200, 21, 4, 96, 172]
abbrev dktX2_hinders_8 : List UInt8 := dkwX2_hinders_8 ++ []
def dkwX2_hinders_7 : List UInt8 := [96, 4, 96, 46, 159, 0, 9, 16, 100, 21, 4, 96, 172, 132, 4, 1, 167, 255, 200, 42, 18, 202]
abbrev dktX2_hinders_7 : List UInt8 := dkwX2_hinders_7 ++ dktX2_hinders_8
def dkwX2_hinders_6 : List UInt8 := [180, 0, 7, 17, 0, 225, 5, 21, 4, 104, 96, 46, 46, 42, 180, 0, 7, 17, 0, 225, 5, 21, 4, 104]
abbrev dktX2_hinders_6 : List UInt8 := dkwX2_hinders_6 ++ dktX2_hinders_7
def dkwX2_hinders_5 : List UInt8 := [167, 255, 230, 3, 54, 4, 21, 4, 42, 180, 0, 7, 5, 46, 162, 0, 51, 42, 180, 0, 47, 42]
abbrev dktX2_hinders_5 : List UInt8 := dkwX2_hinders_5 ++ dktX2_hinders_6
def dkwX2_hinders_4 : List UInt8 := [180, 0, 7, 4, 46, 162, 0, 21, 42, 21, 4, 182, 0, 184, 154, 0, 6, 21, 4, 172, 132, 4, 1]
abbrev dktX2_hinders_4 : List UInt8 := dkwX2_hinders_4 ++ dktX2_hinders_5
def dkwX2_hinders_3 : List UInt8 := [132, 4, 1, 167, 255, 200, 29, 153, 0, 7, 28, 153, 0, 6, 16, 254, 172, 3, 54, 4, 21, 4, 42]
abbrev dktX2_hinders_3 : List UInt8 := dkwX2_hinders_3 ++ dktX2_hinders_4
def dkwX2_hinders_2 : List UInt8 := [180, 0, 47, 21, 4, 46, 182, 0, 164, 153, 0, 7, 4, 167, 0, 4, 3, 62, 28, 16, 10, 108, 61]
abbrev dktX2_hinders_2 : List UInt8 := dkwX2_hinders_2 ++ dktX2_hinders_3
def dkwX2_hinders_1 : List UInt8 := [162, 0, 51, 42, 180, 0, 47, 21, 4, 28, 16, 10, 112, 79, 29, 153, 0, 23, 42, 21, 4, 42]
abbrev dktX2_hinders_1 : List UInt8 := dkwX2_hinders_1 ++ dktX2_hinders_2
def dkwX2_hinders_0 : List UInt8 := [27, 61, 27, 155, 0, 7, 4, 167, 0, 4, 3, 62, 3, 54, 4, 21, 4, 42, 180, 0, 7, 3, 46]
abbrev dktX2_hinders_0 : List UInt8 := dkwX2_hinders_0 ++ dktX2_hinders_1
theorem dksX2_hinders_0 : cX2_hinders.data.toList.drop 0 = dktX2_hinders_0 := by decide +kernel
theorem dksX2_hinders_1 : cX2_hinders.data.toList.drop 23 = dktX2_hinders_1 := dk_seg dksX2_hinders_0 23 rfl rfl
theorem dksX2_hinders_2 : cX2_hinders.data.toList.drop 45 = dktX2_hinders_2 := dk_seg dksX2_hinders_1 22 rfl rfl
theorem dksX2_hinders_3 : cX2_hinders.data.toList.drop 68 = dktX2_hinders_3 := dk_seg dksX2_hinders_2 23 rfl rfl
theorem dksX2_hinders_4 : cX2_hinders.data.toList.drop 91 = dktX2_hinders_4 := dk_seg dksX2_hinders_3 23 rfl rfl
theorem dksX2_hinders_5 : cX2_hinders.data.toList.drop 114 = dktX2_hinders_5 := dk_seg dksX2_hinders_4 23 rfl rfl
theorem dksX2_hinders_6 : cX2_hinders.data.toList.drop 136 = dktX2_hinders_6 := dk_seg dksX2_hinders_5 22 rfl rfl
theorem dksX2_hinders_7 : cX2_hinders.data.toList.drop 160 = dktX2_hinders_7 := dk_seg dksX2_hinders_6 24 rfl rfl
theorem dksX2_hinders_8 : cX2_hinders.data.toList.drop 182 = dktX2_hinders_8 := dk_seg dksX2_hinders_7 22 rfl rfl
theorem dX2_hinders_0 : decode cX2_hinders 0 = .ok (.iload_n 1, 1) := dk_27 (dk_at dksX2_hinders_0 0 rfl rfl)
theorem dX2_hinders_1 : decode cX2_hinders 1 = .ok (.istore_n 2, 1) := dk_61 (dk_at dksX2_hinders_0 1 rfl rfl)
theorem dX2_hinders_2 : decode cX2_hinders 2 = .ok (.iload_n 1, 1) := dk_27 (dk_at dksX2_hinders_0 2 rfl rfl)
theorem dX2_hinders_3 : decode cX2_hinders 3 = .ok (.ifCond .lt 7, 3) := dk_155 0 7 (dk_at dksX2_hinders_0 3 rfl rfl)
theorem dX2_hinders_6 : decode cX2_hinders 6 = .ok (.iconst 1, 1) := dk_4 (dk_at dksX2_hinders_0 6 rfl rfl)
theorem dX2_hinders_7 : decode cX2_hinders 7 = .ok (.goto 4, 3) := dk_167 0 4 (dk_at dksX2_hinders_0 7 rfl rfl)
theorem dX2_hinders_10 : decode cX2_hinders 10 = .ok (.iconst 0, 1) := dk_3 (dk_at dksX2_hinders_0 10 rfl rfl)
theorem dX2_hinders_11 : decode cX2_hinders 11 = .ok (.istore_n 3, 1) := dk_62 (dk_at dksX2_hinders_0 11 rfl rfl)
theorem dX2_hinders_12 : decode cX2_hinders 12 = .ok (.iconst 0, 1) := dk_3 (dk_at dksX2_hinders_0 12 rfl rfl)
theorem dX2_hinders_13 : decode cX2_hinders 13 = .ok (.istore 4, 2) := dk_54 4 (dk_at dksX2_hinders_0 13 rfl rfl)
theorem dX2_hinders_15 : decode cX2_hinders 15 = .ok (.iload 4, 2) := dk_21 4 (dk_at dksX2_hinders_0 15 rfl rfl)
theorem dX2_hinders_17 : decode cX2_hinders 17 = .ok (.aload_n 0, 1) := dk_42 (dk_at dksX2_hinders_0 17 rfl rfl)
theorem dX2_hinders_18 : decode cX2_hinders 18 = .ok (.getfield 7, 3) := dk_180 0 7 (dk_at dksX2_hinders_0 18 rfl rfl)
theorem dX2_hinders_21 : decode cX2_hinders 21 = .ok (.iconst 0, 1) := dk_3 (dk_at dksX2_hinders_0 21 rfl rfl)
theorem dX2_hinders_22 : decode cX2_hinders 22 = .ok (.iaload, 1) := dk_46 (dk_at dksX2_hinders_0 22 rfl rfl)
theorem dX2_hinders_23 : decode cX2_hinders 23 = .ok (.if_icmp .ge 51, 3) := dk_162 0 51 (dk_at dksX2_hinders_1 0 rfl rfl)
theorem dX2_hinders_26 : decode cX2_hinders 26 = .ok (.aload_n 0, 1) := dk_42 (dk_at dksX2_hinders_1 3 rfl rfl)
theorem dX2_hinders_27 : decode cX2_hinders 27 = .ok (.getfield 47, 3) := dk_180 0 47 (dk_at dksX2_hinders_1 4 rfl rfl)
theorem dX2_hinders_30 : decode cX2_hinders 30 = .ok (.iload 4, 2) := dk_21 4 (dk_at dksX2_hinders_1 7 rfl rfl)
theorem dX2_hinders_32 : decode cX2_hinders 32 = .ok (.iload_n 2, 1) := dk_28 (dk_at dksX2_hinders_1 9 rfl rfl)
theorem dX2_hinders_33 : decode cX2_hinders 33 = .ok (.bipush 10, 2) := dk_16 10 (dk_at dksX2_hinders_1 10 rfl rfl)
theorem dX2_hinders_35 : decode cX2_hinders 35 = .ok (.irem, 1) := dk_112 (dk_at dksX2_hinders_1 12 rfl rfl)
theorem dX2_hinders_36 : decode cX2_hinders 36 = .ok (.iastore, 1) := dk_79 (dk_at dksX2_hinders_1 13 rfl rfl)
theorem dX2_hinders_37 : decode cX2_hinders 37 = .ok (.iload_n 3, 1) := dk_29 (dk_at dksX2_hinders_1 14 rfl rfl)
theorem dX2_hinders_38 : decode cX2_hinders 38 = .ok (.ifCond .eq 23, 3) := dk_153 0 23 (dk_at dksX2_hinders_1 15 rfl rfl)
theorem dX2_hinders_41 : decode cX2_hinders 41 = .ok (.aload_n 0, 1) := dk_42 (dk_at dksX2_hinders_1 18 rfl rfl)
theorem dX2_hinders_42 : decode cX2_hinders 42 = .ok (.iload 4, 2) := dk_21 4 (dk_at dksX2_hinders_1 19 rfl rfl)
theorem dX2_hinders_44 : decode cX2_hinders 44 = .ok (.aload_n 0, 1) := dk_42 (dk_at dksX2_hinders_1 21 rfl rfl)
theorem dX2_hinders_45 : decode cX2_hinders 45 = .ok (.getfield 47, 3) := dk_180 0 47 (dk_at dksX2_hinders_2 0 rfl rfl)
theorem dX2_hinders_48 : decode cX2_hinders 48 = .ok (.iload 4, 2) := dk_21 4 (dk_at dksX2_hinders_2 3 rfl rfl)
theorem dX2_hinders_50 : decode cX2_hinders 50 = .ok (.iaload, 1) := dk_46 (dk_at dksX2_hinders_2 5 rfl rfl)
theorem dX2_hinders_51 : decode cX2_hinders 51 = .ok (.invokevirtual 164, 3) := dk_182 0 164 (dk_at dksX2_hinders_2 6 rfl rfl)
theorem dX2_hinders_54 : decode cX2_hinders 54 = .ok (.ifCond .eq 7, 3) := dk_153 0 7 (dk_at dksX2_hinders_2 9 rfl rfl)
theorem dX2_hinders_57 : decode cX2_hinders 57 = .ok (.iconst 1, 1) := dk_4 (dk_at dksX2_hinders_2 12 rfl rfl)
theorem dX2_hinders_58 : decode cX2_hinders 58 = .ok (.goto 4, 3) := dk_167 0 4 (dk_at dksX2_hinders_2 13 rfl rfl)
theorem dX2_hinders_61 : decode cX2_hinders 61 = .ok (.iconst 0, 1) := dk_3 (dk_at dksX2_hinders_2 16 rfl rfl)
theorem dX2_hinders_62 : decode cX2_hinders 62 = .ok (.istore_n 3, 1) := dk_62 (dk_at dksX2_hinders_2 17 rfl rfl)
theorem dX2_hinders_63 : decode cX2_hinders 63 = .ok (.iload_n 2, 1) := dk_28 (dk_at dksX2_hinders_2 18 rfl rfl)
theorem dX2_hinders_64 : decode cX2_hinders 64 = .ok (.bipush 10, 2) := dk_16 10 (dk_at dksX2_hinders_2 19 rfl rfl)
theorem dX2_hinders_66 : decode cX2_hinders 66 = .ok (.idiv, 1) := dk_108 (dk_at dksX2_hinders_2 21 rfl rfl)
theorem dX2_hinders_67 : decode cX2_hinders 67 = .ok (.istore_n 2, 1) := dk_61 (dk_at dksX2_hinders_2 22 rfl rfl)
theorem dX2_hinders_68 : decode cX2_hinders 68 = .ok (.iinc 4 1, 3) := dk_132 4 1 (dk_at dksX2_hinders_3 0 rfl rfl)
theorem dX2_hinders_71 : decode cX2_hinders 71 = .ok (.goto (-56), 3) := dk_167 255 200 (dk_at dksX2_hinders_3 3 rfl rfl)
theorem dX2_hinders_74 : decode cX2_hinders 74 = .ok (.iload_n 3, 1) := dk_29 (dk_at dksX2_hinders_3 6 rfl rfl)
theorem dX2_hinders_75 : decode cX2_hinders 75 = .ok (.ifCond .eq 7, 3) := dk_153 0 7 (dk_at dksX2_hinders_3 7 rfl rfl)
theorem dX2_hinders_78 : decode cX2_hinders 78 = .ok (.iload_n 2, 1) := dk_28 (dk_at dksX2_hinders_3 10 rfl rfl)
theorem dX2_hinders_79 : decode cX2_hinders 79 = .ok (.ifCond .eq 6, 3) := dk_153 0 6 (dk_at dksX2_hinders_3 11 rfl rfl)
theorem dX2_hinders_82 : decode cX2_hinders 82 = .ok (.bipush (-2), 2) := dk_16 254 (dk_at dksX2_hinders_3 14 rfl rfl)
theorem dX2_hinders_84 : decode cX2_hinders 84 = .ok (.ireturn, 1) := dk_172 (dk_at dksX2_hinders_3 16 rfl rfl)
theorem dX2_hinders_85 : decode cX2_hinders 85 = .ok (.iconst 0, 1) := dk_3 (dk_at dksX2_hinders_3 17 rfl rfl)
theorem dX2_hinders_86 : decode cX2_hinders 86 = .ok (.istore 4, 2) := dk_54 4 (dk_at dksX2_hinders_3 18 rfl rfl)
theorem dX2_hinders_88 : decode cX2_hinders 88 = .ok (.iload 4, 2) := dk_21 4 (dk_at dksX2_hinders_3 20 rfl rfl)
theorem dX2_hinders_90 : decode cX2_hinders 90 = .ok (.aload_n 0, 1) := dk_42 (dk_at dksX2_hinders_3 22 rfl rfl)
theorem dX2_hinders_91 : decode cX2_hinders 91 = .ok (.getfield 7, 3) := dk_180 0 7 (dk_at dksX2_hinders_4 0 rfl rfl)
theorem dX2_hinders_94 : decode cX2_hinders 94 = .ok (.iconst 1, 1) := dk_4 (dk_at dksX2_hinders_4 3 rfl rfl)
theorem dX2_hinders_95 : decode cX2_hinders 95 = .ok (.iaload, 1) := dk_46 (dk_at dksX2_hinders_4 4 rfl rfl)
theorem dX2_hinders_96 : decode cX2_hinders 96 = .ok (.if_icmp .ge 21, 3) := dk_162 0 21 (dk_at dksX2_hinders_4 5 rfl rfl)
theorem dX2_hinders_99 : decode cX2_hinders 99 = .ok (.aload_n 0, 1) := dk_42 (dk_at dksX2_hinders_4 8 rfl rfl)
theorem dX2_hinders_100 : decode cX2_hinders 100 = .ok (.iload 4, 2) := dk_21 4 (dk_at dksX2_hinders_4 9 rfl rfl)
theorem dX2_hinders_102 : decode cX2_hinders 102 = .ok (.invokevirtual 184, 3) := dk_182 0 184 (dk_at dksX2_hinders_4 11 rfl rfl)
theorem dX2_hinders_105 : decode cX2_hinders 105 = .ok (.ifCond .ne 6, 3) := dk_154 0 6 (dk_at dksX2_hinders_4 14 rfl rfl)
theorem dX2_hinders_108 : decode cX2_hinders 108 = .ok (.iload 4, 2) := dk_21 4 (dk_at dksX2_hinders_4 17 rfl rfl)
theorem dX2_hinders_110 : decode cX2_hinders 110 = .ok (.ireturn, 1) := dk_172 (dk_at dksX2_hinders_4 19 rfl rfl)
theorem dX2_hinders_111 : decode cX2_hinders 111 = .ok (.iinc 4 1, 3) := dk_132 4 1 (dk_at dksX2_hinders_4 20 rfl rfl)
theorem dX2_hinders_114 : decode cX2_hinders 114 = .ok (.goto (-26), 3) := dk_167 255 230 (dk_at dksX2_hinders_5 0 rfl rfl)
theorem dX2_hinders_117 : decode cX2_hinders 117 = .ok (.iconst 0, 1) := dk_3 (dk_at dksX2_hinders_5 3 rfl rfl)
theorem dX2_hinders_118 : decode cX2_hinders 118 = .ok (.istore 4, 2) := dk_54 4 (dk_at dksX2_hinders_5 4 rfl rfl)
theorem dX2_hinders_120 : decode cX2_hinders 120 = .ok (.iload 4, 2) := dk_21 4 (dk_at dksX2_hinders_5 6 rfl rfl)
theorem dX2_hinders_122 : decode cX2_hinders 122 = .ok (.aload_n 0, 1) := dk_42 (dk_at dksX2_hinders_5 8 rfl rfl)
theorem dX2_hinders_123 : decode cX2_hinders 123 = .ok (.getfield 7, 3) := dk_180 0 7 (dk_at dksX2_hinders_5 9 rfl rfl)
theorem dX2_hinders_126 : decode cX2_hinders 126 = .ok (.iconst 2, 1) := dk_5 (dk_at dksX2_hinders_5 12 rfl rfl)
theorem dX2_hinders_127 : decode cX2_hinders 127 = .ok (.iaload, 1) := dk_46 (dk_at dksX2_hinders_5 13 rfl rfl)
theorem dX2_hinders_128 : decode cX2_hinders 128 = .ok (.if_icmp .ge 51, 3) := dk_162 0 51 (dk_at dksX2_hinders_5 14 rfl rfl)
theorem dX2_hinders_131 : decode cX2_hinders 131 = .ok (.aload_n 0, 1) := dk_42 (dk_at dksX2_hinders_5 17 rfl rfl)
theorem dX2_hinders_132 : decode cX2_hinders 132 = .ok (.getfield 47, 3) := dk_180 0 47 (dk_at dksX2_hinders_5 18 rfl rfl)
theorem dX2_hinders_135 : decode cX2_hinders 135 = .ok (.aload_n 0, 1) := dk_42 (dk_at dksX2_hinders_5 21 rfl rfl)
theorem dX2_hinders_136 : decode cX2_hinders 136 = .ok (.getfield 7, 3) := dk_180 0 7 (dk_at dksX2_hinders_6 0 rfl rfl)
theorem dX2_hinders_139 : decode cX2_hinders 139 = .ok (.sipush 225, 3) := dk_17 0 225 (dk_at dksX2_hinders_6 3 rfl rfl)
theorem dX2_hinders_142 : decode cX2_hinders 142 = .ok (.iconst 2, 1) := dk_5 (dk_at dksX2_hinders_6 6 rfl rfl)
theorem dX2_hinders_143 : decode cX2_hinders 143 = .ok (.iload 4, 2) := dk_21 4 (dk_at dksX2_hinders_6 7 rfl rfl)
theorem dX2_hinders_145 : decode cX2_hinders 145 = .ok (.imul, 1) := dk_104 (dk_at dksX2_hinders_6 9 rfl rfl)
theorem dX2_hinders_146 : decode cX2_hinders 146 = .ok (.iadd, 1) := dk_96 (dk_at dksX2_hinders_6 10 rfl rfl)
theorem dX2_hinders_147 : decode cX2_hinders 147 = .ok (.iaload, 1) := dk_46 (dk_at dksX2_hinders_6 11 rfl rfl)
theorem dX2_hinders_148 : decode cX2_hinders 148 = .ok (.iaload, 1) := dk_46 (dk_at dksX2_hinders_6 12 rfl rfl)
theorem dX2_hinders_149 : decode cX2_hinders 149 = .ok (.aload_n 0, 1) := dk_42 (dk_at dksX2_hinders_6 13 rfl rfl)
theorem dX2_hinders_150 : decode cX2_hinders 150 = .ok (.getfield 7, 3) := dk_180 0 7 (dk_at dksX2_hinders_6 14 rfl rfl)
theorem dX2_hinders_153 : decode cX2_hinders 153 = .ok (.sipush 225, 3) := dk_17 0 225 (dk_at dksX2_hinders_6 17 rfl rfl)
theorem dX2_hinders_156 : decode cX2_hinders 156 = .ok (.iconst 2, 1) := dk_5 (dk_at dksX2_hinders_6 20 rfl rfl)
theorem dX2_hinders_157 : decode cX2_hinders 157 = .ok (.iload 4, 2) := dk_21 4 (dk_at dksX2_hinders_6 21 rfl rfl)
theorem dX2_hinders_159 : decode cX2_hinders 159 = .ok (.imul, 1) := dk_104 (dk_at dksX2_hinders_6 23 rfl rfl)
theorem dX2_hinders_160 : decode cX2_hinders 160 = .ok (.iadd, 1) := dk_96 (dk_at dksX2_hinders_7 0 rfl rfl)
theorem dX2_hinders_161 : decode cX2_hinders 161 = .ok (.iconst 1, 1) := dk_4 (dk_at dksX2_hinders_7 1 rfl rfl)
theorem dX2_hinders_162 : decode cX2_hinders 162 = .ok (.iadd, 1) := dk_96 (dk_at dksX2_hinders_7 2 rfl rfl)
theorem dX2_hinders_163 : decode cX2_hinders 163 = .ok (.iaload, 1) := dk_46 (dk_at dksX2_hinders_7 3 rfl rfl)
theorem dX2_hinders_164 : decode cX2_hinders 164 = .ok (.if_icmp .eq 9, 3) := dk_159 0 9 (dk_at dksX2_hinders_7 4 rfl rfl)
theorem dX2_hinders_167 : decode cX2_hinders 167 = .ok (.bipush 100, 2) := dk_16 100 (dk_at dksX2_hinders_7 7 rfl rfl)
theorem dX2_hinders_169 : decode cX2_hinders 169 = .ok (.iload 4, 2) := dk_21 4 (dk_at dksX2_hinders_7 9 rfl rfl)
theorem dX2_hinders_171 : decode cX2_hinders 171 = .ok (.iadd, 1) := dk_96 (dk_at dksX2_hinders_7 11 rfl rfl)
theorem dX2_hinders_172 : decode cX2_hinders 172 = .ok (.ireturn, 1) := dk_172 (dk_at dksX2_hinders_7 12 rfl rfl)
theorem dX2_hinders_173 : decode cX2_hinders 173 = .ok (.iinc 4 1, 3) := dk_132 4 1 (dk_at dksX2_hinders_7 13 rfl rfl)
theorem dX2_hinders_176 : decode cX2_hinders 176 = .ok (.goto (-56), 3) := dk_167 255 200 (dk_at dksX2_hinders_7 16 rfl rfl)
theorem dX2_hinders_179 : decode cX2_hinders 179 = .ok (.aload_n 0, 1) := dk_42 (dk_at dksX2_hinders_7 19 rfl rfl)
theorem dX2_hinders_180 : decode cX2_hinders 180 = .ok (.ldc 202, 2) := dk_18 202 (dk_at dksX2_hinders_7 20 rfl rfl)
theorem dX2_hinders_182 : decode cX2_hinders 182 = .ok (.invokevirtual 187, 3) := dk_182 0 187 (dk_at dksX2_hinders_8 0 rfl rfl)
theorem dX2_hinders_185 : decode cX2_hinders 185 = .ok (.istore 4, 2) := dk_54 4 (dk_at dksX2_hinders_8 3 rfl rfl)
theorem dX2_hinders_187 : decode cX2_hinders 187 = .ok (.iload 4, 2) := dk_21 4 (dk_at dksX2_hinders_8 5 rfl rfl)
theorem dX2_hinders_189 : decode cX2_hinders 189 = .ok (.iconst (-1), 1) := dk_2 (dk_at dksX2_hinders_8 7 rfl rfl)
theorem dX2_hinders_190 : decode cX2_hinders 190 = .ok (.if_icmp .ne 8, 3) := dk_160 0 8 (dk_at dksX2_hinders_8 8 rfl rfl)
theorem dX2_hinders_193 : decode cX2_hinders 193 = .ok (.bipush (-5), 2) := dk_16 251 (dk_at dksX2_hinders_8 11 rfl rfl)
theorem dX2_hinders_195 : decode cX2_hinders 195 = .ok (.goto 9, 3) := dk_167 0 9 (dk_at dksX2_hinders_8 13 rfl rfl)
theorem dX2_hinders_198 : decode cX2_hinders 198 = .ok (.sipush 200, 3) := dk_17 0 200 (dk_at dksX2_hinders_8 16 rfl rfl)
theorem dX2_hinders_201 : decode cX2_hinders 201 = .ok (.iload 4, 2) := dk_21 4 (dk_at dksX2_hinders_8 19 rfl rfl)
theorem dX2_hinders_203 : decode cX2_hinders 203 = .ok (.iadd, 1) := dk_96 (dk_at dksX2_hinders_8 21 rfl rfl)
theorem dX2_hinders_204 : decode cX2_hinders 204 = .ok (.ireturn, 1) := dk_172 (dk_at dksX2_hinders_8 22 rfl rfl)
abbrev cX2_without : ByteArray := prog_24_method_71_code
def yX2_without : MethodName := ⟨RX2, "without", "(I)I"⟩
def dkwX2_without_1 : List UInt8 := [167, 0, 4, 2, 172]
abbrev dktX2_without_1 : List UInt8 := dkwX2_without_1 ++ []
def dkwX2_without_0 : List UInt8 := [42, 27, 182, 0, 123, 153, 0, 20, 42, 18, 202, 4, 27, 120, 2, 130, 126, 18, 203, 182, 0, 204]
abbrev dktX2_without_0 : List UInt8 := dkwX2_without_0 ++ dktX2_without_1
theorem dksX2_without_0 : cX2_without.data.toList.drop 0 = dktX2_without_0 := by decide +kernel
theorem dksX2_without_1 : cX2_without.data.toList.drop 22 = dktX2_without_1 := dk_seg dksX2_without_0 22 rfl rfl
theorem dX2_without_0 : decode cX2_without 0 = .ok (.aload_n 0, 1) := dk_42 (dk_at dksX2_without_0 0 rfl rfl)
theorem dX2_without_1 : decode cX2_without 1 = .ok (.iload_n 1, 1) := dk_27 (dk_at dksX2_without_0 1 rfl rfl)
theorem dX2_without_2 : decode cX2_without 2 = .ok (.invokevirtual 123, 3) := dk_182 0 123 (dk_at dksX2_without_0 2 rfl rfl)
theorem dX2_without_5 : decode cX2_without 5 = .ok (.ifCond .eq 20, 3) := dk_153 0 20 (dk_at dksX2_without_0 5 rfl rfl)
theorem dX2_without_8 : decode cX2_without 8 = .ok (.aload_n 0, 1) := dk_42 (dk_at dksX2_without_0 8 rfl rfl)
theorem dX2_without_9 : decode cX2_without 9 = .ok (.ldc 202, 2) := dk_18 202 (dk_at dksX2_without_0 9 rfl rfl)
theorem dX2_without_11 : decode cX2_without 11 = .ok (.iconst 1, 1) := dk_4 (dk_at dksX2_without_0 11 rfl rfl)
theorem dX2_without_12 : decode cX2_without 12 = .ok (.iload_n 1, 1) := dk_27 (dk_at dksX2_without_0 12 rfl rfl)
theorem dX2_without_13 : decode cX2_without 13 = .ok (.ishl, 1) := dk_120 (dk_at dksX2_without_0 13 rfl rfl)
theorem dX2_without_14 : decode cX2_without 14 = .ok (.iconst (-1), 1) := dk_2 (dk_at dksX2_without_0 14 rfl rfl)
theorem dX2_without_15 : decode cX2_without 15 = .ok (.ixor, 1) := dk_130 (dk_at dksX2_without_0 15 rfl rfl)
theorem dX2_without_16 : decode cX2_without 16 = .ok (.iand, 1) := dk_126 (dk_at dksX2_without_0 16 rfl rfl)
theorem dX2_without_17 : decode cX2_without 17 = .ok (.ldc 203, 2) := dk_18 203 (dk_at dksX2_without_0 17 rfl rfl)
theorem dX2_without_19 : decode cX2_without 19 = .ok (.invokevirtual 204, 3) := dk_182 0 204 (dk_at dksX2_without_0 19 rfl rfl)
theorem dX2_without_22 : decode cX2_without 22 = .ok (.goto 4, 3) := dk_167 0 4 (dk_at dksX2_without_1 0 rfl rfl)
theorem dX2_without_25 : decode cX2_without 25 = .ok (.iconst (-1), 1) := dk_2 (dk_at dksX2_without_1 3 rfl rfl)
theorem dX2_without_26 : decode cX2_without 26 = .ok (.ireturn, 1) := dk_172 (dk_at dksX2_without_1 4 rfl rfl)
abbrev cX2_core : ByteArray := prog_24_method_72_code
def yX2_core : MethodName := ⟨RX2, "core", "()I"⟩
def dkwX2_core_4 : List UInt8 := [126, 60, 132, 2, 1, 167, 255, 211, 27, 172]
abbrev dktX2_core_4 : List UInt8 := dkwX2_core_4 ++ []
def dkwX2_core_3 : List UInt8 := [160, 0, 26, 42, 27, 4, 28, 120, 2, 130, 126, 4, 182, 0, 204, 154, 0, 11, 27, 4, 28, 120, 2, 130]
abbrev dktX2_core_3 : List UInt8 := dkwX2_core_3 ++ dktX2_core_4
def dkwX2_core_2 : List UInt8 := [132, 2, 1, 167, 255, 223, 3, 61, 28, 42, 180, 0, 7, 4, 46, 162, 0, 41, 27, 28, 122, 4, 126, 4]
abbrev dktX2_core_2 : List UInt8 := dkwX2_core_2 ++ dktX2_core_3
def dkwX2_core_1 : List UInt8 := [162, 0, 29, 27, 42, 28, 3, 182, 0, 87, 6, 160, 0, 7, 3, 167, 0, 6, 4, 28, 120, 128, 60]
abbrev dktX2_core_1 : List UInt8 := dkwX2_core_1 ++ dktX2_core_2
def dkwX2_core_0 : List UInt8 := [42, 18, 202, 4, 182, 0, 204, 158, 0, 6, 16, 253, 172, 3, 60, 3, 61, 28, 42, 180, 0, 7, 4, 46]
abbrev dktX2_core_0 : List UInt8 := dkwX2_core_0 ++ dktX2_core_1
theorem dksX2_core_0 : cX2_core.data.toList.drop 0 = dktX2_core_0 := by decide +kernel
theorem dksX2_core_1 : cX2_core.data.toList.drop 24 = dktX2_core_1 := dk_seg dksX2_core_0 24 rfl rfl
theorem dksX2_core_2 : cX2_core.data.toList.drop 47 = dktX2_core_2 := dk_seg dksX2_core_1 23 rfl rfl
theorem dksX2_core_3 : cX2_core.data.toList.drop 71 = dktX2_core_3 := dk_seg dksX2_core_2 24 rfl rfl
theorem dksX2_core_4 : cX2_core.data.toList.drop 95 = dktX2_core_4 := dk_seg dksX2_core_3 24 rfl rfl
theorem dX2_core_0 : decode cX2_core 0 = .ok (.aload_n 0, 1) := dk_42 (dk_at dksX2_core_0 0 rfl rfl)
theorem dX2_core_1 : decode cX2_core 1 = .ok (.ldc 202, 2) := dk_18 202 (dk_at dksX2_core_0 1 rfl rfl)
theorem dX2_core_3 : decode cX2_core 3 = .ok (.iconst 1, 1) := dk_4 (dk_at dksX2_core_0 3 rfl rfl)
theorem dX2_core_4 : decode cX2_core 4 = .ok (.invokevirtual 204, 3) := dk_182 0 204 (dk_at dksX2_core_0 4 rfl rfl)
theorem dX2_core_7 : decode cX2_core 7 = .ok (.ifCond .le 6, 3) := dk_158 0 6 (dk_at dksX2_core_0 7 rfl rfl)
theorem dX2_core_10 : decode cX2_core 10 = .ok (.bipush (-3), 2) := dk_16 253 (dk_at dksX2_core_0 10 rfl rfl)
theorem dX2_core_12 : decode cX2_core 12 = .ok (.ireturn, 1) := dk_172 (dk_at dksX2_core_0 12 rfl rfl)
theorem dX2_core_13 : decode cX2_core 13 = .ok (.iconst 0, 1) := dk_3 (dk_at dksX2_core_0 13 rfl rfl)
theorem dX2_core_14 : decode cX2_core 14 = .ok (.istore_n 1, 1) := dk_60 (dk_at dksX2_core_0 14 rfl rfl)
theorem dX2_core_15 : decode cX2_core 15 = .ok (.iconst 0, 1) := dk_3 (dk_at dksX2_core_0 15 rfl rfl)
theorem dX2_core_16 : decode cX2_core 16 = .ok (.istore_n 2, 1) := dk_61 (dk_at dksX2_core_0 16 rfl rfl)
theorem dX2_core_17 : decode cX2_core 17 = .ok (.iload_n 2, 1) := dk_28 (dk_at dksX2_core_0 17 rfl rfl)
theorem dX2_core_18 : decode cX2_core 18 = .ok (.aload_n 0, 1) := dk_42 (dk_at dksX2_core_0 18 rfl rfl)
theorem dX2_core_19 : decode cX2_core 19 = .ok (.getfield 7, 3) := dk_180 0 7 (dk_at dksX2_core_0 19 rfl rfl)
theorem dX2_core_22 : decode cX2_core 22 = .ok (.iconst 1, 1) := dk_4 (dk_at dksX2_core_0 22 rfl rfl)
theorem dX2_core_23 : decode cX2_core 23 = .ok (.iaload, 1) := dk_46 (dk_at dksX2_core_0 23 rfl rfl)
theorem dX2_core_24 : decode cX2_core 24 = .ok (.if_icmp .ge 29, 3) := dk_162 0 29 (dk_at dksX2_core_1 0 rfl rfl)
theorem dX2_core_27 : decode cX2_core 27 = .ok (.iload_n 1, 1) := dk_27 (dk_at dksX2_core_1 3 rfl rfl)
theorem dX2_core_28 : decode cX2_core 28 = .ok (.aload_n 0, 1) := dk_42 (dk_at dksX2_core_1 4 rfl rfl)
theorem dX2_core_29 : decode cX2_core 29 = .ok (.iload_n 2, 1) := dk_28 (dk_at dksX2_core_1 5 rfl rfl)
theorem dX2_core_30 : decode cX2_core 30 = .ok (.iconst 0, 1) := dk_3 (dk_at dksX2_core_1 6 rfl rfl)
theorem dX2_core_31 : decode cX2_core 31 = .ok (.invokevirtual 87, 3) := dk_182 0 87 (dk_at dksX2_core_1 7 rfl rfl)
theorem dX2_core_34 : decode cX2_core 34 = .ok (.iconst 3, 1) := dk_6 (dk_at dksX2_core_1 10 rfl rfl)
theorem dX2_core_35 : decode cX2_core 35 = .ok (.if_icmp .ne 7, 3) := dk_160 0 7 (dk_at dksX2_core_1 11 rfl rfl)
theorem dX2_core_38 : decode cX2_core 38 = .ok (.iconst 0, 1) := dk_3 (dk_at dksX2_core_1 14 rfl rfl)
theorem dX2_core_39 : decode cX2_core 39 = .ok (.goto 6, 3) := dk_167 0 6 (dk_at dksX2_core_1 15 rfl rfl)
theorem dX2_core_42 : decode cX2_core 42 = .ok (.iconst 1, 1) := dk_4 (dk_at dksX2_core_1 18 rfl rfl)
theorem dX2_core_43 : decode cX2_core 43 = .ok (.iload_n 2, 1) := dk_28 (dk_at dksX2_core_1 19 rfl rfl)
theorem dX2_core_44 : decode cX2_core 44 = .ok (.ishl, 1) := dk_120 (dk_at dksX2_core_1 20 rfl rfl)
theorem dX2_core_45 : decode cX2_core 45 = .ok (.ior, 1) := dk_128 (dk_at dksX2_core_1 21 rfl rfl)
theorem dX2_core_46 : decode cX2_core 46 = .ok (.istore_n 1, 1) := dk_60 (dk_at dksX2_core_1 22 rfl rfl)
theorem dX2_core_47 : decode cX2_core 47 = .ok (.iinc 2 1, 3) := dk_132 2 1 (dk_at dksX2_core_2 0 rfl rfl)
theorem dX2_core_50 : decode cX2_core 50 = .ok (.goto (-33), 3) := dk_167 255 223 (dk_at dksX2_core_2 3 rfl rfl)
theorem dX2_core_53 : decode cX2_core 53 = .ok (.iconst 0, 1) := dk_3 (dk_at dksX2_core_2 6 rfl rfl)
theorem dX2_core_54 : decode cX2_core 54 = .ok (.istore_n 2, 1) := dk_61 (dk_at dksX2_core_2 7 rfl rfl)
theorem dX2_core_55 : decode cX2_core 55 = .ok (.iload_n 2, 1) := dk_28 (dk_at dksX2_core_2 8 rfl rfl)
theorem dX2_core_56 : decode cX2_core 56 = .ok (.aload_n 0, 1) := dk_42 (dk_at dksX2_core_2 9 rfl rfl)
theorem dX2_core_57 : decode cX2_core 57 = .ok (.getfield 7, 3) := dk_180 0 7 (dk_at dksX2_core_2 10 rfl rfl)
theorem dX2_core_60 : decode cX2_core 60 = .ok (.iconst 1, 1) := dk_4 (dk_at dksX2_core_2 13 rfl rfl)
theorem dX2_core_61 : decode cX2_core 61 = .ok (.iaload, 1) := dk_46 (dk_at dksX2_core_2 14 rfl rfl)
theorem dX2_core_62 : decode cX2_core 62 = .ok (.if_icmp .ge 41, 3) := dk_162 0 41 (dk_at dksX2_core_2 15 rfl rfl)
theorem dX2_core_65 : decode cX2_core 65 = .ok (.iload_n 1, 1) := dk_27 (dk_at dksX2_core_2 18 rfl rfl)
theorem dX2_core_66 : decode cX2_core 66 = .ok (.iload_n 2, 1) := dk_28 (dk_at dksX2_core_2 19 rfl rfl)
theorem dX2_core_67 : decode cX2_core 67 = .ok (.ishr, 1) := dk_122 (dk_at dksX2_core_2 20 rfl rfl)
theorem dX2_core_68 : decode cX2_core 68 = .ok (.iconst 1, 1) := dk_4 (dk_at dksX2_core_2 21 rfl rfl)
theorem dX2_core_69 : decode cX2_core 69 = .ok (.iand, 1) := dk_126 (dk_at dksX2_core_2 22 rfl rfl)
theorem dX2_core_70 : decode cX2_core 70 = .ok (.iconst 1, 1) := dk_4 (dk_at dksX2_core_2 23 rfl rfl)
theorem dX2_core_71 : decode cX2_core 71 = .ok (.if_icmp .ne 26, 3) := dk_160 0 26 (dk_at dksX2_core_3 0 rfl rfl)
theorem dX2_core_74 : decode cX2_core 74 = .ok (.aload_n 0, 1) := dk_42 (dk_at dksX2_core_3 3 rfl rfl)
theorem dX2_core_75 : decode cX2_core 75 = .ok (.iload_n 1, 1) := dk_27 (dk_at dksX2_core_3 4 rfl rfl)
theorem dX2_core_76 : decode cX2_core 76 = .ok (.iconst 1, 1) := dk_4 (dk_at dksX2_core_3 5 rfl rfl)
theorem dX2_core_77 : decode cX2_core 77 = .ok (.iload_n 2, 1) := dk_28 (dk_at dksX2_core_3 6 rfl rfl)
theorem dX2_core_78 : decode cX2_core 78 = .ok (.ishl, 1) := dk_120 (dk_at dksX2_core_3 7 rfl rfl)
theorem dX2_core_79 : decode cX2_core 79 = .ok (.iconst (-1), 1) := dk_2 (dk_at dksX2_core_3 8 rfl rfl)
theorem dX2_core_80 : decode cX2_core 80 = .ok (.ixor, 1) := dk_130 (dk_at dksX2_core_3 9 rfl rfl)
theorem dX2_core_81 : decode cX2_core 81 = .ok (.iand, 1) := dk_126 (dk_at dksX2_core_3 10 rfl rfl)
theorem dX2_core_82 : decode cX2_core 82 = .ok (.iconst 1, 1) := dk_4 (dk_at dksX2_core_3 11 rfl rfl)
theorem dX2_core_83 : decode cX2_core 83 = .ok (.invokevirtual 204, 3) := dk_182 0 204 (dk_at dksX2_core_3 12 rfl rfl)
theorem dX2_core_86 : decode cX2_core 86 = .ok (.ifCond .ne 11, 3) := dk_154 0 11 (dk_at dksX2_core_3 15 rfl rfl)
theorem dX2_core_89 : decode cX2_core 89 = .ok (.iload_n 1, 1) := dk_27 (dk_at dksX2_core_3 18 rfl rfl)
theorem dX2_core_90 : decode cX2_core 90 = .ok (.iconst 1, 1) := dk_4 (dk_at dksX2_core_3 19 rfl rfl)
theorem dX2_core_91 : decode cX2_core 91 = .ok (.iload_n 2, 1) := dk_28 (dk_at dksX2_core_3 20 rfl rfl)
theorem dX2_core_92 : decode cX2_core 92 = .ok (.ishl, 1) := dk_120 (dk_at dksX2_core_3 21 rfl rfl)
theorem dX2_core_93 : decode cX2_core 93 = .ok (.iconst (-1), 1) := dk_2 (dk_at dksX2_core_3 22 rfl rfl)
theorem dX2_core_94 : decode cX2_core 94 = .ok (.ixor, 1) := dk_130 (dk_at dksX2_core_3 23 rfl rfl)
theorem dX2_core_95 : decode cX2_core 95 = .ok (.iand, 1) := dk_126 (dk_at dksX2_core_4 0 rfl rfl)
theorem dX2_core_96 : decode cX2_core 96 = .ok (.istore_n 1, 1) := dk_60 (dk_at dksX2_core_4 1 rfl rfl)
theorem dX2_core_97 : decode cX2_core 97 = .ok (.iinc 2 1, 3) := dk_132 2 1 (dk_at dksX2_core_4 2 rfl rfl)
theorem dX2_core_100 : decode cX2_core 100 = .ok (.goto (-45), 3) := dk_167 255 211 (dk_at dksX2_core_4 5 rfl rfl)
theorem dX2_core_103 : decode cX2_core 103 = .ok (.iload_n 1, 1) := dk_27 (dk_at dksX2_core_4 8 rfl rfl)
theorem dX2_core_104 : decode cX2_core 104 = .ok (.ireturn, 1) := dk_172 (dk_at dksX2_core_4 9 rfl rfl)
abbrev cX2_possible : ByteArray := prog_24_method_73_code
def yX2_possible : MethodName := ⟨RX2, "possible", "(I)I"⟩
def dkwX2_possible_1 : List UInt8 := [46, 172]
abbrev dktX2_possible_1 : List UInt8 := dkwX2_possible_1 ++ []
def dkwX2_possible_0 : List UInt8 := [42, 27, 182, 0, 63, 154, 0, 5, 2, 172, 42, 18, 202, 18, 203, 182, 0, 204, 87, 42, 180, 0, 53, 27]
abbrev dktX2_possible_0 : List UInt8 := dkwX2_possible_0 ++ dktX2_possible_1
theorem dksX2_possible_0 : cX2_possible.data.toList.drop 0 = dktX2_possible_0 := by decide +kernel
theorem dksX2_possible_1 : cX2_possible.data.toList.drop 24 = dktX2_possible_1 := dk_seg dksX2_possible_0 24 rfl rfl
theorem dX2_possible_0 : decode cX2_possible 0 = .ok (.aload_n 0, 1) := dk_42 (dk_at dksX2_possible_0 0 rfl rfl)
theorem dX2_possible_1 : decode cX2_possible 1 = .ok (.iload_n 1, 1) := dk_27 (dk_at dksX2_possible_0 1 rfl rfl)
theorem dX2_possible_2 : decode cX2_possible 2 = .ok (.invokevirtual 63, 3) := dk_182 0 63 (dk_at dksX2_possible_0 2 rfl rfl)
theorem dX2_possible_5 : decode cX2_possible 5 = .ok (.ifCond .ne 5, 3) := dk_154 0 5 (dk_at dksX2_possible_0 5 rfl rfl)
theorem dX2_possible_8 : decode cX2_possible 8 = .ok (.iconst (-1), 1) := dk_2 (dk_at dksX2_possible_0 8 rfl rfl)
theorem dX2_possible_9 : decode cX2_possible 9 = .ok (.ireturn, 1) := dk_172 (dk_at dksX2_possible_0 9 rfl rfl)
theorem dX2_possible_10 : decode cX2_possible 10 = .ok (.aload_n 0, 1) := dk_42 (dk_at dksX2_possible_0 10 rfl rfl)
theorem dX2_possible_11 : decode cX2_possible 11 = .ok (.ldc 202, 2) := dk_18 202 (dk_at dksX2_possible_0 11 rfl rfl)
theorem dX2_possible_13 : decode cX2_possible 13 = .ok (.ldc 203, 2) := dk_18 203 (dk_at dksX2_possible_0 13 rfl rfl)
theorem dX2_possible_15 : decode cX2_possible 15 = .ok (.invokevirtual 204, 3) := dk_182 0 204 (dk_at dksX2_possible_0 15 rfl rfl)
theorem dX2_possible_18 : decode cX2_possible 18 = .ok (.pop, 1) := dk_87 (dk_at dksX2_possible_0 18 rfl rfl)
theorem dX2_possible_19 : decode cX2_possible 19 = .ok (.aload_n 0, 1) := dk_42 (dk_at dksX2_possible_0 19 rfl rfl)
theorem dX2_possible_20 : decode cX2_possible 20 = .ok (.getfield 53, 3) := dk_180 0 53 (dk_at dksX2_possible_0 20 rfl rfl)
theorem dX2_possible_23 : decode cX2_possible 23 = .ok (.iload_n 1, 1) := dk_27 (dk_at dksX2_possible_0 23 rfl rfl)
theorem dX2_possible_24 : decode cX2_possible 24 = .ok (.iaload, 1) := dk_46 (dk_at dksX2_possible_1 0 rfl rfl)
theorem dX2_possible_25 : decode cX2_possible 25 = .ok (.ireturn, 1) := dk_172 (dk_at dksX2_possible_1 1 rfl rfl)
abbrev cX2_append : ByteArray := prog_24_method_74_code
def yX2_append : MethodName := ⟨RX2, "append", "(C)I"⟩
def dkwX2_append_2 : List UInt8 := [180, 0, 207, 172]
abbrev dktX2_append_2 : List UInt8 := dkwX2_append_2 ++ []
def dkwX2_append_1 : List UInt8 := [16, 252, 172, 42, 180, 0, 22, 42, 180, 0, 207, 27, 79, 42, 89, 180, 0, 207, 4, 96, 181, 0, 207, 42]
abbrev dktX2_append_1 : List UInt8 := dkwX2_append_1 ++ dktX2_append_2
def dkwX2_append_0 : List UInt8 := [27, 16, 33, 16, 126, 184, 0, 59, 154, 0, 6, 16, 254, 172, 42, 180, 0, 207, 16, 60, 160, 0, 6]
abbrev dktX2_append_0 : List UInt8 := dkwX2_append_0 ++ dktX2_append_1
theorem dksX2_append_0 : cX2_append.data.toList.drop 0 = dktX2_append_0 := by decide +kernel
theorem dksX2_append_1 : cX2_append.data.toList.drop 23 = dktX2_append_1 := dk_seg dksX2_append_0 23 rfl rfl
theorem dksX2_append_2 : cX2_append.data.toList.drop 47 = dktX2_append_2 := dk_seg dksX2_append_1 24 rfl rfl
theorem dX2_append_0 : decode cX2_append 0 = .ok (.iload_n 1, 1) := dk_27 (dk_at dksX2_append_0 0 rfl rfl)
theorem dX2_append_1 : decode cX2_append 1 = .ok (.bipush 33, 2) := dk_16 33 (dk_at dksX2_append_0 1 rfl rfl)
theorem dX2_append_3 : decode cX2_append 3 = .ok (.bipush 126, 2) := dk_16 126 (dk_at dksX2_append_0 3 rfl rfl)
theorem dX2_append_5 : decode cX2_append 5 = .ok (.invokestatic 59, 3) := dk_184 0 59 (dk_at dksX2_append_0 5 rfl rfl)
theorem dX2_append_8 : decode cX2_append 8 = .ok (.ifCond .ne 6, 3) := dk_154 0 6 (dk_at dksX2_append_0 8 rfl rfl)
theorem dX2_append_11 : decode cX2_append 11 = .ok (.bipush (-2), 2) := dk_16 254 (dk_at dksX2_append_0 11 rfl rfl)
theorem dX2_append_13 : decode cX2_append 13 = .ok (.ireturn, 1) := dk_172 (dk_at dksX2_append_0 13 rfl rfl)
theorem dX2_append_14 : decode cX2_append 14 = .ok (.aload_n 0, 1) := dk_42 (dk_at dksX2_append_0 14 rfl rfl)
theorem dX2_append_15 : decode cX2_append 15 = .ok (.getfield 207, 3) := dk_180 0 207 (dk_at dksX2_append_0 15 rfl rfl)
theorem dX2_append_18 : decode cX2_append 18 = .ok (.bipush 60, 2) := dk_16 60 (dk_at dksX2_append_0 18 rfl rfl)
theorem dX2_append_20 : decode cX2_append 20 = .ok (.if_icmp .ne 6, 3) := dk_160 0 6 (dk_at dksX2_append_0 20 rfl rfl)
theorem dX2_append_23 : decode cX2_append 23 = .ok (.bipush (-4), 2) := dk_16 252 (dk_at dksX2_append_1 0 rfl rfl)
theorem dX2_append_25 : decode cX2_append 25 = .ok (.ireturn, 1) := dk_172 (dk_at dksX2_append_1 2 rfl rfl)
theorem dX2_append_26 : decode cX2_append 26 = .ok (.aload_n 0, 1) := dk_42 (dk_at dksX2_append_1 3 rfl rfl)
theorem dX2_append_27 : decode cX2_append 27 = .ok (.getfield 22, 3) := dk_180 0 22 (dk_at dksX2_append_1 4 rfl rfl)
theorem dX2_append_30 : decode cX2_append 30 = .ok (.aload_n 0, 1) := dk_42 (dk_at dksX2_append_1 7 rfl rfl)
theorem dX2_append_31 : decode cX2_append 31 = .ok (.getfield 207, 3) := dk_180 0 207 (dk_at dksX2_append_1 8 rfl rfl)
theorem dX2_append_34 : decode cX2_append 34 = .ok (.iload_n 1, 1) := dk_27 (dk_at dksX2_append_1 11 rfl rfl)
theorem dX2_append_35 : decode cX2_append 35 = .ok (.iastore, 1) := dk_79 (dk_at dksX2_append_1 12 rfl rfl)
theorem dX2_append_36 : decode cX2_append 36 = .ok (.aload_n 0, 1) := dk_42 (dk_at dksX2_append_1 13 rfl rfl)
theorem dX2_append_37 : decode cX2_append 37 = .ok (.dup, 1) := dk_89 (dk_at dksX2_append_1 14 rfl rfl)
theorem dX2_append_38 : decode cX2_append 38 = .ok (.getfield 207, 3) := dk_180 0 207 (dk_at dksX2_append_1 15 rfl rfl)
theorem dX2_append_41 : decode cX2_append 41 = .ok (.iconst 1, 1) := dk_4 (dk_at dksX2_append_1 18 rfl rfl)
theorem dX2_append_42 : decode cX2_append 42 = .ok (.iadd, 1) := dk_96 (dk_at dksX2_append_1 19 rfl rfl)
theorem dX2_append_43 : decode cX2_append 43 = .ok (.putfield 207, 3) := dk_181 0 207 (dk_at dksX2_append_1 20 rfl rfl)
theorem dX2_append_46 : decode cX2_append 46 = .ok (.aload_n 0, 1) := dk_42 (dk_at dksX2_append_1 23 rfl rfl)
theorem dX2_append_47 : decode cX2_append 47 = .ok (.getfield 207, 3) := dk_180 0 207 (dk_at dksX2_append_2 0 rfl rfl)
theorem dX2_append_50 : decode cX2_append 50 = .ok (.ireturn, 1) := dk_172 (dk_at dksX2_append_2 3 rfl rfl)
abbrev cX2_read : ByteArray := prog_24_method_82_code
def yX2_read : MethodName := ⟨RX2, "read", "()I"⟩
def dkwX2_read_7 : List UInt8 := [132, 1, 1, 167, 255, 116, 42, 42, 180, 0, 223, 182, 0, 84, 172]
abbrev dktX2_read_7 : List UInt8 := dkwX2_read_7 ++ []
def dkwX2_read_6 : List UInt8 := [180, 0, 7, 21, 4, 42, 180, 0, 16, 21, 4, 46, 79, 132, 4, 1, 167, 255, 231, 16, 253, 172]
abbrev dktX2_read_6 : List UInt8 := dkwX2_read_6 ++ dktX2_read_7
def dkwX2_read_5 : List UInt8 := [62, 29, 156, 0, 42, 42, 27, 181, 0, 29, 3, 54, 4, 21, 4, 17, 0, 237, 162, 0, 23, 42]
abbrev dktX2_read_5 : List UInt8 := dkwX2_read_5 ++ dktX2_read_6
def dkwX2_read_4 : List UInt8 := [46, 42, 180, 0, 56, 8, 27, 104, 6, 96, 46, 42, 180, 0, 56, 8, 27, 104, 7, 96, 46, 182, 0, 116]
abbrev dktX2_read_4 : List UInt8 := dkwX2_read_4 ++ dktX2_read_5
def dkwX2_read_3 : List UInt8 := [167, 0, 48, 42, 28, 42, 180, 0, 56, 8, 27, 104, 4, 96, 46, 42, 180, 0, 56, 8, 27, 104, 5, 96]
abbrev dktX2_read_3 : List UInt8 := dkwX2_read_3 ++ dktX2_read_4
def dkwX2_read_2 : List UInt8 := [180, 0, 56, 8, 27, 104, 6, 96, 46, 42, 180, 0, 56, 8, 27, 104, 7, 96, 46, 182, 0, 110]
abbrev dktX2_read_2 : List UInt8 := dkwX2_read_2 ++ dktX2_read_3
def dkwX2_read_1 : List UInt8 := [27, 42, 180, 0, 223, 162, 0, 138, 42, 180, 0, 56, 8, 27, 104, 46, 61, 28, 154, 0, 30, 42, 42]
abbrev dktX2_read_1 : List UInt8 := dkwX2_read_1 ++ dktX2_read_2
def dkwX2_read_0 : List UInt8 := [42, 182, 0, 81, 42, 182, 0, 242, 154, 0, 14, 42, 42, 180, 0, 210, 181, 0, 25, 16, 254, 172, 3, 60]
abbrev dktX2_read_0 : List UInt8 := dkwX2_read_0 ++ dktX2_read_1
theorem dksX2_read_0 : cX2_read.data.toList.drop 0 = dktX2_read_0 := by decide +kernel
theorem dksX2_read_1 : cX2_read.data.toList.drop 24 = dktX2_read_1 := dk_seg dksX2_read_0 24 rfl rfl
theorem dksX2_read_2 : cX2_read.data.toList.drop 47 = dktX2_read_2 := dk_seg dksX2_read_1 23 rfl rfl
theorem dksX2_read_3 : cX2_read.data.toList.drop 69 = dktX2_read_3 := dk_seg dksX2_read_2 22 rfl rfl
theorem dksX2_read_4 : cX2_read.data.toList.drop 93 = dktX2_read_4 := dk_seg dksX2_read_3 24 rfl rfl
theorem dksX2_read_5 : cX2_read.data.toList.drop 117 = dktX2_read_5 := dk_seg dksX2_read_4 24 rfl rfl
theorem dksX2_read_6 : cX2_read.data.toList.drop 139 = dktX2_read_6 := dk_seg dksX2_read_5 22 rfl rfl
theorem dksX2_read_7 : cX2_read.data.toList.drop 161 = dktX2_read_7 := dk_seg dksX2_read_6 22 rfl rfl
theorem dX2_read_0 : decode cX2_read 0 = .ok (.aload_n 0, 1) := dk_42 (dk_at dksX2_read_0 0 rfl rfl)
theorem dX2_read_1 : decode cX2_read 1 = .ok (.invokevirtual 81, 3) := dk_182 0 81 (dk_at dksX2_read_0 1 rfl rfl)
theorem dX2_read_4 : decode cX2_read 4 = .ok (.aload_n 0, 1) := dk_42 (dk_at dksX2_read_0 4 rfl rfl)
theorem dX2_read_5 : decode cX2_read 5 = .ok (.invokevirtual 242, 3) := dk_182 0 242 (dk_at dksX2_read_0 5 rfl rfl)
theorem dX2_read_8 : decode cX2_read 8 = .ok (.ifCond .ne 14, 3) := dk_154 0 14 (dk_at dksX2_read_0 8 rfl rfl)
theorem dX2_read_11 : decode cX2_read 11 = .ok (.aload_n 0, 1) := dk_42 (dk_at dksX2_read_0 11 rfl rfl)
theorem dX2_read_12 : decode cX2_read 12 = .ok (.aload_n 0, 1) := dk_42 (dk_at dksX2_read_0 12 rfl rfl)
theorem dX2_read_13 : decode cX2_read 13 = .ok (.getfield 210, 3) := dk_180 0 210 (dk_at dksX2_read_0 13 rfl rfl)
theorem dX2_read_16 : decode cX2_read 16 = .ok (.putfield 25, 3) := dk_181 0 25 (dk_at dksX2_read_0 16 rfl rfl)
theorem dX2_read_19 : decode cX2_read 19 = .ok (.bipush (-2), 2) := dk_16 254 (dk_at dksX2_read_0 19 rfl rfl)
theorem dX2_read_21 : decode cX2_read 21 = .ok (.ireturn, 1) := dk_172 (dk_at dksX2_read_0 21 rfl rfl)
theorem dX2_read_22 : decode cX2_read 22 = .ok (.iconst 0, 1) := dk_3 (dk_at dksX2_read_0 22 rfl rfl)
theorem dX2_read_23 : decode cX2_read 23 = .ok (.istore_n 1, 1) := dk_60 (dk_at dksX2_read_0 23 rfl rfl)
theorem dX2_read_24 : decode cX2_read 24 = .ok (.iload_n 1, 1) := dk_27 (dk_at dksX2_read_1 0 rfl rfl)
theorem dX2_read_25 : decode cX2_read 25 = .ok (.aload_n 0, 1) := dk_42 (dk_at dksX2_read_1 1 rfl rfl)
theorem dX2_read_26 : decode cX2_read 26 = .ok (.getfield 223, 3) := dk_180 0 223 (dk_at dksX2_read_1 2 rfl rfl)
theorem dX2_read_29 : decode cX2_read 29 = .ok (.if_icmp .ge 138, 3) := dk_162 0 138 (dk_at dksX2_read_1 5 rfl rfl)
theorem dX2_read_32 : decode cX2_read 32 = .ok (.aload_n 0, 1) := dk_42 (dk_at dksX2_read_1 8 rfl rfl)
theorem dX2_read_33 : decode cX2_read 33 = .ok (.getfield 56, 3) := dk_180 0 56 (dk_at dksX2_read_1 9 rfl rfl)
theorem dX2_read_36 : decode cX2_read 36 = .ok (.iconst 5, 1) := dk_8 (dk_at dksX2_read_1 12 rfl rfl)
theorem dX2_read_37 : decode cX2_read 37 = .ok (.iload_n 1, 1) := dk_27 (dk_at dksX2_read_1 13 rfl rfl)
theorem dX2_read_38 : decode cX2_read 38 = .ok (.imul, 1) := dk_104 (dk_at dksX2_read_1 14 rfl rfl)
theorem dX2_read_39 : decode cX2_read 39 = .ok (.iaload, 1) := dk_46 (dk_at dksX2_read_1 15 rfl rfl)
theorem dX2_read_40 : decode cX2_read 40 = .ok (.istore_n 2, 1) := dk_61 (dk_at dksX2_read_1 16 rfl rfl)
theorem dX2_read_41 : decode cX2_read 41 = .ok (.iload_n 2, 1) := dk_28 (dk_at dksX2_read_1 17 rfl rfl)
theorem dX2_read_42 : decode cX2_read 42 = .ok (.ifCond .ne 30, 3) := dk_154 0 30 (dk_at dksX2_read_1 18 rfl rfl)
theorem dX2_read_45 : decode cX2_read 45 = .ok (.aload_n 0, 1) := dk_42 (dk_at dksX2_read_1 21 rfl rfl)
theorem dX2_read_46 : decode cX2_read 46 = .ok (.aload_n 0, 1) := dk_42 (dk_at dksX2_read_1 22 rfl rfl)
theorem dX2_read_47 : decode cX2_read 47 = .ok (.getfield 56, 3) := dk_180 0 56 (dk_at dksX2_read_2 0 rfl rfl)
theorem dX2_read_50 : decode cX2_read 50 = .ok (.iconst 5, 1) := dk_8 (dk_at dksX2_read_2 3 rfl rfl)
theorem dX2_read_51 : decode cX2_read 51 = .ok (.iload_n 1, 1) := dk_27 (dk_at dksX2_read_2 4 rfl rfl)
theorem dX2_read_52 : decode cX2_read 52 = .ok (.imul, 1) := dk_104 (dk_at dksX2_read_2 5 rfl rfl)
theorem dX2_read_53 : decode cX2_read 53 = .ok (.iconst 3, 1) := dk_6 (dk_at dksX2_read_2 6 rfl rfl)
theorem dX2_read_54 : decode cX2_read 54 = .ok (.iadd, 1) := dk_96 (dk_at dksX2_read_2 7 rfl rfl)
theorem dX2_read_55 : decode cX2_read 55 = .ok (.iaload, 1) := dk_46 (dk_at dksX2_read_2 8 rfl rfl)
theorem dX2_read_56 : decode cX2_read 56 = .ok (.aload_n 0, 1) := dk_42 (dk_at dksX2_read_2 9 rfl rfl)
theorem dX2_read_57 : decode cX2_read 57 = .ok (.getfield 56, 3) := dk_180 0 56 (dk_at dksX2_read_2 10 rfl rfl)
theorem dX2_read_60 : decode cX2_read 60 = .ok (.iconst 5, 1) := dk_8 (dk_at dksX2_read_2 13 rfl rfl)
theorem dX2_read_61 : decode cX2_read 61 = .ok (.iload_n 1, 1) := dk_27 (dk_at dksX2_read_2 14 rfl rfl)
theorem dX2_read_62 : decode cX2_read 62 = .ok (.imul, 1) := dk_104 (dk_at dksX2_read_2 15 rfl rfl)
theorem dX2_read_63 : decode cX2_read 63 = .ok (.iconst 4, 1) := dk_7 (dk_at dksX2_read_2 16 rfl rfl)
theorem dX2_read_64 : decode cX2_read 64 = .ok (.iadd, 1) := dk_96 (dk_at dksX2_read_2 17 rfl rfl)
theorem dX2_read_65 : decode cX2_read 65 = .ok (.iaload, 1) := dk_46 (dk_at dksX2_read_2 18 rfl rfl)
theorem dX2_read_66 : decode cX2_read 66 = .ok (.invokevirtual 110, 3) := dk_182 0 110 (dk_at dksX2_read_2 19 rfl rfl)
theorem dX2_read_69 : decode cX2_read 69 = .ok (.goto 48, 3) := dk_167 0 48 (dk_at dksX2_read_3 0 rfl rfl)
theorem dX2_read_72 : decode cX2_read 72 = .ok (.aload_n 0, 1) := dk_42 (dk_at dksX2_read_3 3 rfl rfl)
theorem dX2_read_73 : decode cX2_read 73 = .ok (.iload_n 2, 1) := dk_28 (dk_at dksX2_read_3 4 rfl rfl)
theorem dX2_read_74 : decode cX2_read 74 = .ok (.aload_n 0, 1) := dk_42 (dk_at dksX2_read_3 5 rfl rfl)
theorem dX2_read_75 : decode cX2_read 75 = .ok (.getfield 56, 3) := dk_180 0 56 (dk_at dksX2_read_3 6 rfl rfl)
theorem dX2_read_78 : decode cX2_read 78 = .ok (.iconst 5, 1) := dk_8 (dk_at dksX2_read_3 9 rfl rfl)
theorem dX2_read_79 : decode cX2_read 79 = .ok (.iload_n 1, 1) := dk_27 (dk_at dksX2_read_3 10 rfl rfl)
theorem dX2_read_80 : decode cX2_read 80 = .ok (.imul, 1) := dk_104 (dk_at dksX2_read_3 11 rfl rfl)
theorem dX2_read_81 : decode cX2_read 81 = .ok (.iconst 1, 1) := dk_4 (dk_at dksX2_read_3 12 rfl rfl)
theorem dX2_read_82 : decode cX2_read 82 = .ok (.iadd, 1) := dk_96 (dk_at dksX2_read_3 13 rfl rfl)
theorem dX2_read_83 : decode cX2_read 83 = .ok (.iaload, 1) := dk_46 (dk_at dksX2_read_3 14 rfl rfl)
theorem dX2_read_84 : decode cX2_read 84 = .ok (.aload_n 0, 1) := dk_42 (dk_at dksX2_read_3 15 rfl rfl)
theorem dX2_read_85 : decode cX2_read 85 = .ok (.getfield 56, 3) := dk_180 0 56 (dk_at dksX2_read_3 16 rfl rfl)
theorem dX2_read_88 : decode cX2_read 88 = .ok (.iconst 5, 1) := dk_8 (dk_at dksX2_read_3 19 rfl rfl)
theorem dX2_read_89 : decode cX2_read 89 = .ok (.iload_n 1, 1) := dk_27 (dk_at dksX2_read_3 20 rfl rfl)
theorem dX2_read_90 : decode cX2_read 90 = .ok (.imul, 1) := dk_104 (dk_at dksX2_read_3 21 rfl rfl)
theorem dX2_read_91 : decode cX2_read 91 = .ok (.iconst 2, 1) := dk_5 (dk_at dksX2_read_3 22 rfl rfl)
theorem dX2_read_92 : decode cX2_read 92 = .ok (.iadd, 1) := dk_96 (dk_at dksX2_read_3 23 rfl rfl)
theorem dX2_read_93 : decode cX2_read 93 = .ok (.iaload, 1) := dk_46 (dk_at dksX2_read_4 0 rfl rfl)
theorem dX2_read_94 : decode cX2_read 94 = .ok (.aload_n 0, 1) := dk_42 (dk_at dksX2_read_4 1 rfl rfl)
theorem dX2_read_95 : decode cX2_read 95 = .ok (.getfield 56, 3) := dk_180 0 56 (dk_at dksX2_read_4 2 rfl rfl)
theorem dX2_read_98 : decode cX2_read 98 = .ok (.iconst 5, 1) := dk_8 (dk_at dksX2_read_4 5 rfl rfl)
theorem dX2_read_99 : decode cX2_read 99 = .ok (.iload_n 1, 1) := dk_27 (dk_at dksX2_read_4 6 rfl rfl)
theorem dX2_read_100 : decode cX2_read 100 = .ok (.imul, 1) := dk_104 (dk_at dksX2_read_4 7 rfl rfl)
theorem dX2_read_101 : decode cX2_read 101 = .ok (.iconst 3, 1) := dk_6 (dk_at dksX2_read_4 8 rfl rfl)
theorem dX2_read_102 : decode cX2_read 102 = .ok (.iadd, 1) := dk_96 (dk_at dksX2_read_4 9 rfl rfl)
theorem dX2_read_103 : decode cX2_read 103 = .ok (.iaload, 1) := dk_46 (dk_at dksX2_read_4 10 rfl rfl)
theorem dX2_read_104 : decode cX2_read 104 = .ok (.aload_n 0, 1) := dk_42 (dk_at dksX2_read_4 11 rfl rfl)
theorem dX2_read_105 : decode cX2_read 105 = .ok (.getfield 56, 3) := dk_180 0 56 (dk_at dksX2_read_4 12 rfl rfl)
theorem dX2_read_108 : decode cX2_read 108 = .ok (.iconst 5, 1) := dk_8 (dk_at dksX2_read_4 15 rfl rfl)
theorem dX2_read_109 : decode cX2_read 109 = .ok (.iload_n 1, 1) := dk_27 (dk_at dksX2_read_4 16 rfl rfl)
theorem dX2_read_110 : decode cX2_read 110 = .ok (.imul, 1) := dk_104 (dk_at dksX2_read_4 17 rfl rfl)
theorem dX2_read_111 : decode cX2_read 111 = .ok (.iconst 4, 1) := dk_7 (dk_at dksX2_read_4 18 rfl rfl)
theorem dX2_read_112 : decode cX2_read 112 = .ok (.iadd, 1) := dk_96 (dk_at dksX2_read_4 19 rfl rfl)
theorem dX2_read_113 : decode cX2_read 113 = .ok (.iaload, 1) := dk_46 (dk_at dksX2_read_4 20 rfl rfl)
theorem dX2_read_114 : decode cX2_read 114 = .ok (.invokevirtual 116, 3) := dk_182 0 116 (dk_at dksX2_read_4 21 rfl rfl)
theorem dX2_read_117 : decode cX2_read 117 = .ok (.istore_n 3, 1) := dk_62 (dk_at dksX2_read_5 0 rfl rfl)
theorem dX2_read_118 : decode cX2_read 118 = .ok (.iload_n 3, 1) := dk_29 (dk_at dksX2_read_5 1 rfl rfl)
theorem dX2_read_119 : decode cX2_read 119 = .ok (.ifCond .ge 42, 3) := dk_156 0 42 (dk_at dksX2_read_5 2 rfl rfl)
theorem dX2_read_122 : decode cX2_read 122 = .ok (.aload_n 0, 1) := dk_42 (dk_at dksX2_read_5 5 rfl rfl)
theorem dX2_read_123 : decode cX2_read 123 = .ok (.iload_n 1, 1) := dk_27 (dk_at dksX2_read_5 6 rfl rfl)
theorem dX2_read_124 : decode cX2_read 124 = .ok (.putfield 29, 3) := dk_181 0 29 (dk_at dksX2_read_5 7 rfl rfl)
theorem dX2_read_127 : decode cX2_read 127 = .ok (.iconst 0, 1) := dk_3 (dk_at dksX2_read_5 10 rfl rfl)
theorem dX2_read_128 : decode cX2_read 128 = .ok (.istore 4, 2) := dk_54 4 (dk_at dksX2_read_5 11 rfl rfl)
theorem dX2_read_130 : decode cX2_read 130 = .ok (.iload 4, 2) := dk_21 4 (dk_at dksX2_read_5 13 rfl rfl)
theorem dX2_read_132 : decode cX2_read 132 = .ok (.sipush 237, 3) := dk_17 0 237 (dk_at dksX2_read_5 15 rfl rfl)
theorem dX2_read_135 : decode cX2_read 135 = .ok (.if_icmp .ge 23, 3) := dk_162 0 23 (dk_at dksX2_read_5 18 rfl rfl)
theorem dX2_read_138 : decode cX2_read 138 = .ok (.aload_n 0, 1) := dk_42 (dk_at dksX2_read_5 21 rfl rfl)
theorem dX2_read_139 : decode cX2_read 139 = .ok (.getfield 7, 3) := dk_180 0 7 (dk_at dksX2_read_6 0 rfl rfl)
theorem dX2_read_142 : decode cX2_read 142 = .ok (.iload 4, 2) := dk_21 4 (dk_at dksX2_read_6 3 rfl rfl)
theorem dX2_read_144 : decode cX2_read 144 = .ok (.aload_n 0, 1) := dk_42 (dk_at dksX2_read_6 5 rfl rfl)
theorem dX2_read_145 : decode cX2_read 145 = .ok (.getfield 16, 3) := dk_180 0 16 (dk_at dksX2_read_6 6 rfl rfl)
theorem dX2_read_148 : decode cX2_read 148 = .ok (.iload 4, 2) := dk_21 4 (dk_at dksX2_read_6 9 rfl rfl)
theorem dX2_read_150 : decode cX2_read 150 = .ok (.iaload, 1) := dk_46 (dk_at dksX2_read_6 11 rfl rfl)
theorem dX2_read_151 : decode cX2_read 151 = .ok (.iastore, 1) := dk_79 (dk_at dksX2_read_6 12 rfl rfl)
theorem dX2_read_152 : decode cX2_read 152 = .ok (.iinc 4 1, 3) := dk_132 4 1 (dk_at dksX2_read_6 13 rfl rfl)
theorem dX2_read_155 : decode cX2_read 155 = .ok (.goto (-25), 3) := dk_167 255 231 (dk_at dksX2_read_6 16 rfl rfl)
theorem dX2_read_158 : decode cX2_read 158 = .ok (.bipush (-3), 2) := dk_16 253 (dk_at dksX2_read_6 19 rfl rfl)
theorem dX2_read_160 : decode cX2_read 160 = .ok (.ireturn, 1) := dk_172 (dk_at dksX2_read_6 21 rfl rfl)
theorem dX2_read_161 : decode cX2_read 161 = .ok (.iinc 1 1, 3) := dk_132 1 1 (dk_at dksX2_read_7 0 rfl rfl)
theorem dX2_read_164 : decode cX2_read 164 = .ok (.goto (-140), 3) := dk_167 255 116 (dk_at dksX2_read_7 3 rfl rfl)
theorem dX2_read_167 : decode cX2_read 167 = .ok (.aload_n 0, 1) := dk_42 (dk_at dksX2_read_7 6 rfl rfl)
theorem dX2_read_168 : decode cX2_read 168 = .ok (.aload_n 0, 1) := dk_42 (dk_at dksX2_read_7 7 rfl rfl)
theorem dX2_read_169 : decode cX2_read 169 = .ok (.getfield 223, 3) := dk_180 0 223 (dk_at dksX2_read_7 8 rfl rfl)
theorem dX2_read_172 : decode cX2_read 172 = .ok (.invokevirtual 84, 3) := dk_182 0 84 (dk_at dksX2_read_7 11 rfl rfl)
theorem dX2_read_175 : decode cX2_read 175 = .ok (.ireturn, 1) := dk_172 (dk_at dksX2_read_7 14 rfl rfl)
abbrev cX2_readsText : ByteArray := prog_24_method_81_code
def yX2_readsText : MethodName := ⟨RX2, "readsText", "()Z"⟩
def dkwX2_readsText_3 : List UInt8 := [42, 180, 0, 210, 42, 180, 0, 213, 160, 0, 7, 4, 167, 0, 4, 3, 172]
abbrev dktX2_readsText_3 : List UInt8 := dkwX2_readsText_3 ++ []
def dkwX2_readsText_2 : List UInt8 := [42, 89, 180, 0, 210, 4, 96, 181, 0, 210, 42, 182, 0, 239, 167, 255, 226, 42, 180, 0, 219, 153, 0, 18]
abbrev dktX2_readsText_2 : List UInt8 := dkwX2_readsText_2 ++ dktX2_readsText_3
def dkwX2_readsText_1 : List UInt8 := [4, 181, 0, 219, 42, 182, 0, 239, 42, 180, 0, 219, 153, 0, 29, 42, 182, 0, 216, 16, 59, 160, 0, 20]
abbrev dktX2_readsText_1 : List UInt8 := dkwX2_readsText_1 ++ dktX2_readsText_2
def dkwX2_readsText_0 : List UInt8 := [42, 3, 181, 0, 210, 42, 42, 180, 0, 207, 181, 0, 213, 42, 3, 181, 0, 207, 42, 3, 181, 0, 223, 42]
abbrev dktX2_readsText_0 : List UInt8 := dkwX2_readsText_0 ++ dktX2_readsText_1
theorem dksX2_readsText_0 : cX2_readsText.data.toList.drop 0 = dktX2_readsText_0 := by decide +kernel
theorem dksX2_readsText_1 : cX2_readsText.data.toList.drop 24 = dktX2_readsText_1 := dk_seg dksX2_readsText_0 24 rfl rfl
theorem dksX2_readsText_2 : cX2_readsText.data.toList.drop 48 = dktX2_readsText_2 := dk_seg dksX2_readsText_1 24 rfl rfl
theorem dksX2_readsText_3 : cX2_readsText.data.toList.drop 72 = dktX2_readsText_3 := dk_seg dksX2_readsText_2 24 rfl rfl
theorem dX2_readsText_0 : decode cX2_readsText 0 = .ok (.aload_n 0, 1) := dk_42 (dk_at dksX2_readsText_0 0 rfl rfl)
theorem dX2_readsText_1 : decode cX2_readsText 1 = .ok (.iconst 0, 1) := dk_3 (dk_at dksX2_readsText_0 1 rfl rfl)
theorem dX2_readsText_2 : decode cX2_readsText 2 = .ok (.putfield 210, 3) := dk_181 0 210 (dk_at dksX2_readsText_0 2 rfl rfl)
theorem dX2_readsText_5 : decode cX2_readsText 5 = .ok (.aload_n 0, 1) := dk_42 (dk_at dksX2_readsText_0 5 rfl rfl)
theorem dX2_readsText_6 : decode cX2_readsText 6 = .ok (.aload_n 0, 1) := dk_42 (dk_at dksX2_readsText_0 6 rfl rfl)
theorem dX2_readsText_7 : decode cX2_readsText 7 = .ok (.getfield 207, 3) := dk_180 0 207 (dk_at dksX2_readsText_0 7 rfl rfl)
theorem dX2_readsText_10 : decode cX2_readsText 10 = .ok (.putfield 213, 3) := dk_181 0 213 (dk_at dksX2_readsText_0 10 rfl rfl)
theorem dX2_readsText_13 : decode cX2_readsText 13 = .ok (.aload_n 0, 1) := dk_42 (dk_at dksX2_readsText_0 13 rfl rfl)
theorem dX2_readsText_14 : decode cX2_readsText 14 = .ok (.iconst 0, 1) := dk_3 (dk_at dksX2_readsText_0 14 rfl rfl)
theorem dX2_readsText_15 : decode cX2_readsText 15 = .ok (.putfield 207, 3) := dk_181 0 207 (dk_at dksX2_readsText_0 15 rfl rfl)
theorem dX2_readsText_18 : decode cX2_readsText 18 = .ok (.aload_n 0, 1) := dk_42 (dk_at dksX2_readsText_0 18 rfl rfl)
theorem dX2_readsText_19 : decode cX2_readsText 19 = .ok (.iconst 0, 1) := dk_3 (dk_at dksX2_readsText_0 19 rfl rfl)
theorem dX2_readsText_20 : decode cX2_readsText 20 = .ok (.putfield 223, 3) := dk_181 0 223 (dk_at dksX2_readsText_0 20 rfl rfl)
theorem dX2_readsText_23 : decode cX2_readsText 23 = .ok (.aload_n 0, 1) := dk_42 (dk_at dksX2_readsText_0 23 rfl rfl)
theorem dX2_readsText_24 : decode cX2_readsText 24 = .ok (.iconst 1, 1) := dk_4 (dk_at dksX2_readsText_1 0 rfl rfl)
theorem dX2_readsText_25 : decode cX2_readsText 25 = .ok (.putfield 219, 3) := dk_181 0 219 (dk_at dksX2_readsText_1 1 rfl rfl)
theorem dX2_readsText_28 : decode cX2_readsText 28 = .ok (.aload_n 0, 1) := dk_42 (dk_at dksX2_readsText_1 4 rfl rfl)
theorem dX2_readsText_29 : decode cX2_readsText 29 = .ok (.invokevirtual 239, 3) := dk_182 0 239 (dk_at dksX2_readsText_1 5 rfl rfl)
theorem dX2_readsText_32 : decode cX2_readsText 32 = .ok (.aload_n 0, 1) := dk_42 (dk_at dksX2_readsText_1 8 rfl rfl)
theorem dX2_readsText_33 : decode cX2_readsText 33 = .ok (.getfield 219, 3) := dk_180 0 219 (dk_at dksX2_readsText_1 9 rfl rfl)
theorem dX2_readsText_36 : decode cX2_readsText 36 = .ok (.ifCond .eq 29, 3) := dk_153 0 29 (dk_at dksX2_readsText_1 12 rfl rfl)
theorem dX2_readsText_39 : decode cX2_readsText 39 = .ok (.aload_n 0, 1) := dk_42 (dk_at dksX2_readsText_1 15 rfl rfl)
theorem dX2_readsText_40 : decode cX2_readsText 40 = .ok (.invokevirtual 216, 3) := dk_182 0 216 (dk_at dksX2_readsText_1 16 rfl rfl)
theorem dX2_readsText_43 : decode cX2_readsText 43 = .ok (.bipush 59, 2) := dk_16 59 (dk_at dksX2_readsText_1 19 rfl rfl)
theorem dX2_readsText_45 : decode cX2_readsText 45 = .ok (.if_icmp .ne 20, 3) := dk_160 0 20 (dk_at dksX2_readsText_1 21 rfl rfl)
theorem dX2_readsText_48 : decode cX2_readsText 48 = .ok (.aload_n 0, 1) := dk_42 (dk_at dksX2_readsText_2 0 rfl rfl)
theorem dX2_readsText_49 : decode cX2_readsText 49 = .ok (.dup, 1) := dk_89 (dk_at dksX2_readsText_2 1 rfl rfl)
theorem dX2_readsText_50 : decode cX2_readsText 50 = .ok (.getfield 210, 3) := dk_180 0 210 (dk_at dksX2_readsText_2 2 rfl rfl)
theorem dX2_readsText_53 : decode cX2_readsText 53 = .ok (.iconst 1, 1) := dk_4 (dk_at dksX2_readsText_2 5 rfl rfl)
theorem dX2_readsText_54 : decode cX2_readsText 54 = .ok (.iadd, 1) := dk_96 (dk_at dksX2_readsText_2 6 rfl rfl)
theorem dX2_readsText_55 : decode cX2_readsText 55 = .ok (.putfield 210, 3) := dk_181 0 210 (dk_at dksX2_readsText_2 7 rfl rfl)
theorem dX2_readsText_58 : decode cX2_readsText 58 = .ok (.aload_n 0, 1) := dk_42 (dk_at dksX2_readsText_2 10 rfl rfl)
theorem dX2_readsText_59 : decode cX2_readsText 59 = .ok (.invokevirtual 239, 3) := dk_182 0 239 (dk_at dksX2_readsText_2 11 rfl rfl)
theorem dX2_readsText_62 : decode cX2_readsText 62 = .ok (.goto (-30), 3) := dk_167 255 226 (dk_at dksX2_readsText_2 14 rfl rfl)
theorem dX2_readsText_65 : decode cX2_readsText 65 = .ok (.aload_n 0, 1) := dk_42 (dk_at dksX2_readsText_2 17 rfl rfl)
theorem dX2_readsText_66 : decode cX2_readsText 66 = .ok (.getfield 219, 3) := dk_180 0 219 (dk_at dksX2_readsText_2 18 rfl rfl)
theorem dX2_readsText_69 : decode cX2_readsText 69 = .ok (.ifCond .eq 18, 3) := dk_153 0 18 (dk_at dksX2_readsText_2 21 rfl rfl)
theorem dX2_readsText_72 : decode cX2_readsText 72 = .ok (.aload_n 0, 1) := dk_42 (dk_at dksX2_readsText_3 0 rfl rfl)
theorem dX2_readsText_73 : decode cX2_readsText 73 = .ok (.getfield 210, 3) := dk_180 0 210 (dk_at dksX2_readsText_3 1 rfl rfl)
theorem dX2_readsText_76 : decode cX2_readsText 76 = .ok (.aload_n 0, 1) := dk_42 (dk_at dksX2_readsText_3 4 rfl rfl)
theorem dX2_readsText_77 : decode cX2_readsText 77 = .ok (.getfield 213, 3) := dk_180 0 213 (dk_at dksX2_readsText_3 5 rfl rfl)
theorem dX2_readsText_80 : decode cX2_readsText 80 = .ok (.if_icmp .ne 7, 3) := dk_160 0 7 (dk_at dksX2_readsText_3 8 rfl rfl)
theorem dX2_readsText_83 : decode cX2_readsText 83 = .ok (.iconst 1, 1) := dk_4 (dk_at dksX2_readsText_3 11 rfl rfl)
theorem dX2_readsText_84 : decode cX2_readsText 84 = .ok (.goto 4, 3) := dk_167 0 4 (dk_at dksX2_readsText_3 12 rfl rfl)
theorem dX2_readsText_87 : decode cX2_readsText 87 = .ok (.iconst 0, 1) := dk_3 (dk_at dksX2_readsText_3 15 rfl rfl)
theorem dX2_readsText_88 : decode cX2_readsText 88 = .ok (.ireturn, 1) := dk_172 (dk_at dksX2_readsText_3 16 rfl rfl)
abbrev cX2_readsItem : ByteArray := prog_24_method_80_code
def yX2_readsItem : MethodName := ⟨RX2, "readsItem", "()V"⟩
def dkwX2_readsItem_5 : List UInt8 := [42, 180, 0, 219, 153, 0, 7, 42, 182, 0, 236, 42, 89, 180, 0, 223, 4, 96, 181, 0, 223, 177]
abbrev dktX2_readsItem_5 : List UInt8 := dkwX2_readsItem_5 ++ []
def dkwX2_readsItem_4 : List UInt8 := [181, 0, 219, 42, 89, 180, 0, 210, 42, 180, 0, 219, 153, 0, 7, 4, 167, 0, 4, 3, 96, 181, 0, 210]
abbrev dktX2_readsItem_4 : List UInt8 := dkwX2_readsItem_4 ++ dktX2_readsItem_5
def dkwX2_readsItem_3 : List UInt8 := [42, 182, 0, 216, 16, 33, 159, 0, 12, 42, 182, 0, 216, 16, 62, 160, 0, 7, 4, 167, 0, 4, 3]
abbrev dktX2_readsItem_3 : List UInt8 := dkwX2_readsItem_3 ++ dktX2_readsItem_4
def dkwX2_readsItem_2 : List UInt8 := [182, 0, 216, 16, 33, 160, 0, 7, 5, 167, 0, 4, 4, 182, 0, 229, 42, 42, 180, 0, 219, 153, 0, 25]
abbrev dktX2_readsItem_2 : List UInt8 := dkwX2_readsItem_2 ++ dktX2_readsItem_3
def dkwX2_readsItem_1 : List UInt8 := [182, 0, 226, 182, 0, 229, 42, 5, 42, 16, 48, 16, 52, 182, 0, 226, 182, 0, 229, 42, 3, 42]
abbrev dktX2_readsItem_1 : List UInt8 := dkwX2_readsItem_1 ++ dktX2_readsItem_2
def dkwX2_readsItem_0 : List UInt8 := [42, 3, 3, 182, 0, 229, 42, 182, 0, 216, 16, 62, 159, 0, 82, 42, 4, 42, 16, 97, 16, 102]
abbrev dktX2_readsItem_0 : List UInt8 := dkwX2_readsItem_0 ++ dktX2_readsItem_1
theorem dksX2_readsItem_0 : cX2_readsItem.data.toList.drop 0 = dktX2_readsItem_0 := by decide +kernel
theorem dksX2_readsItem_1 : cX2_readsItem.data.toList.drop 22 = dktX2_readsItem_1 := dk_seg dksX2_readsItem_0 22 rfl rfl
theorem dksX2_readsItem_2 : cX2_readsItem.data.toList.drop 44 = dktX2_readsItem_2 := dk_seg dksX2_readsItem_1 22 rfl rfl
theorem dksX2_readsItem_3 : cX2_readsItem.data.toList.drop 68 = dktX2_readsItem_3 := dk_seg dksX2_readsItem_2 24 rfl rfl
theorem dksX2_readsItem_4 : cX2_readsItem.data.toList.drop 91 = dktX2_readsItem_4 := dk_seg dksX2_readsItem_3 23 rfl rfl
theorem dksX2_readsItem_5 : cX2_readsItem.data.toList.drop 115 = dktX2_readsItem_5 := dk_seg dksX2_readsItem_4 24 rfl rfl
theorem dX2_readsItem_0 : decode cX2_readsItem 0 = .ok (.aload_n 0, 1) := dk_42 (dk_at dksX2_readsItem_0 0 rfl rfl)
theorem dX2_readsItem_1 : decode cX2_readsItem 1 = .ok (.iconst 0, 1) := dk_3 (dk_at dksX2_readsItem_0 1 rfl rfl)
theorem dX2_readsItem_2 : decode cX2_readsItem 2 = .ok (.iconst 0, 1) := dk_3 (dk_at dksX2_readsItem_0 2 rfl rfl)
theorem dX2_readsItem_3 : decode cX2_readsItem 3 = .ok (.invokevirtual 229, 3) := dk_182 0 229 (dk_at dksX2_readsItem_0 3 rfl rfl)
theorem dX2_readsItem_6 : decode cX2_readsItem 6 = .ok (.aload_n 0, 1) := dk_42 (dk_at dksX2_readsItem_0 6 rfl rfl)
theorem dX2_readsItem_7 : decode cX2_readsItem 7 = .ok (.invokevirtual 216, 3) := dk_182 0 216 (dk_at dksX2_readsItem_0 7 rfl rfl)
theorem dX2_readsItem_10 : decode cX2_readsItem 10 = .ok (.bipush 62, 2) := dk_16 62 (dk_at dksX2_readsItem_0 10 rfl rfl)
theorem dX2_readsItem_12 : decode cX2_readsItem 12 = .ok (.if_icmp .eq 82, 3) := dk_159 0 82 (dk_at dksX2_readsItem_0 12 rfl rfl)
theorem dX2_readsItem_15 : decode cX2_readsItem 15 = .ok (.aload_n 0, 1) := dk_42 (dk_at dksX2_readsItem_0 15 rfl rfl)
theorem dX2_readsItem_16 : decode cX2_readsItem 16 = .ok (.iconst 1, 1) := dk_4 (dk_at dksX2_readsItem_0 16 rfl rfl)
theorem dX2_readsItem_17 : decode cX2_readsItem 17 = .ok (.aload_n 0, 1) := dk_42 (dk_at dksX2_readsItem_0 17 rfl rfl)
theorem dX2_readsItem_18 : decode cX2_readsItem 18 = .ok (.bipush 97, 2) := dk_16 97 (dk_at dksX2_readsItem_0 18 rfl rfl)
theorem dX2_readsItem_20 : decode cX2_readsItem 20 = .ok (.bipush 102, 2) := dk_16 102 (dk_at dksX2_readsItem_0 20 rfl rfl)
theorem dX2_readsItem_22 : decode cX2_readsItem 22 = .ok (.invokevirtual 226, 3) := dk_182 0 226 (dk_at dksX2_readsItem_1 0 rfl rfl)
theorem dX2_readsItem_25 : decode cX2_readsItem 25 = .ok (.invokevirtual 229, 3) := dk_182 0 229 (dk_at dksX2_readsItem_1 3 rfl rfl)
theorem dX2_readsItem_28 : decode cX2_readsItem 28 = .ok (.aload_n 0, 1) := dk_42 (dk_at dksX2_readsItem_1 6 rfl rfl)
theorem dX2_readsItem_29 : decode cX2_readsItem 29 = .ok (.iconst 2, 1) := dk_5 (dk_at dksX2_readsItem_1 7 rfl rfl)
theorem dX2_readsItem_30 : decode cX2_readsItem 30 = .ok (.aload_n 0, 1) := dk_42 (dk_at dksX2_readsItem_1 8 rfl rfl)
theorem dX2_readsItem_31 : decode cX2_readsItem 31 = .ok (.bipush 48, 2) := dk_16 48 (dk_at dksX2_readsItem_1 9 rfl rfl)
theorem dX2_readsItem_33 : decode cX2_readsItem 33 = .ok (.bipush 52, 2) := dk_16 52 (dk_at dksX2_readsItem_1 11 rfl rfl)
theorem dX2_readsItem_35 : decode cX2_readsItem 35 = .ok (.invokevirtual 226, 3) := dk_182 0 226 (dk_at dksX2_readsItem_1 13 rfl rfl)
theorem dX2_readsItem_38 : decode cX2_readsItem 38 = .ok (.invokevirtual 229, 3) := dk_182 0 229 (dk_at dksX2_readsItem_1 16 rfl rfl)
theorem dX2_readsItem_41 : decode cX2_readsItem 41 = .ok (.aload_n 0, 1) := dk_42 (dk_at dksX2_readsItem_1 19 rfl rfl)
theorem dX2_readsItem_42 : decode cX2_readsItem 42 = .ok (.iconst 0, 1) := dk_3 (dk_at dksX2_readsItem_1 20 rfl rfl)
theorem dX2_readsItem_43 : decode cX2_readsItem 43 = .ok (.aload_n 0, 1) := dk_42 (dk_at dksX2_readsItem_1 21 rfl rfl)
theorem dX2_readsItem_44 : decode cX2_readsItem 44 = .ok (.invokevirtual 216, 3) := dk_182 0 216 (dk_at dksX2_readsItem_2 0 rfl rfl)
theorem dX2_readsItem_47 : decode cX2_readsItem 47 = .ok (.bipush 33, 2) := dk_16 33 (dk_at dksX2_readsItem_2 3 rfl rfl)
theorem dX2_readsItem_49 : decode cX2_readsItem 49 = .ok (.if_icmp .ne 7, 3) := dk_160 0 7 (dk_at dksX2_readsItem_2 5 rfl rfl)
theorem dX2_readsItem_52 : decode cX2_readsItem 52 = .ok (.iconst 2, 1) := dk_5 (dk_at dksX2_readsItem_2 8 rfl rfl)
theorem dX2_readsItem_53 : decode cX2_readsItem 53 = .ok (.goto 4, 3) := dk_167 0 4 (dk_at dksX2_readsItem_2 9 rfl rfl)
theorem dX2_readsItem_56 : decode cX2_readsItem 56 = .ok (.iconst 1, 1) := dk_4 (dk_at dksX2_readsItem_2 12 rfl rfl)
theorem dX2_readsItem_57 : decode cX2_readsItem 57 = .ok (.invokevirtual 229, 3) := dk_182 0 229 (dk_at dksX2_readsItem_2 13 rfl rfl)
theorem dX2_readsItem_60 : decode cX2_readsItem 60 = .ok (.aload_n 0, 1) := dk_42 (dk_at dksX2_readsItem_2 16 rfl rfl)
theorem dX2_readsItem_61 : decode cX2_readsItem 61 = .ok (.aload_n 0, 1) := dk_42 (dk_at dksX2_readsItem_2 17 rfl rfl)
theorem dX2_readsItem_62 : decode cX2_readsItem 62 = .ok (.getfield 219, 3) := dk_180 0 219 (dk_at dksX2_readsItem_2 18 rfl rfl)
theorem dX2_readsItem_65 : decode cX2_readsItem 65 = .ok (.ifCond .eq 25, 3) := dk_153 0 25 (dk_at dksX2_readsItem_2 21 rfl rfl)
theorem dX2_readsItem_68 : decode cX2_readsItem 68 = .ok (.aload_n 0, 1) := dk_42 (dk_at dksX2_readsItem_3 0 rfl rfl)
theorem dX2_readsItem_69 : decode cX2_readsItem 69 = .ok (.invokevirtual 216, 3) := dk_182 0 216 (dk_at dksX2_readsItem_3 1 rfl rfl)
theorem dX2_readsItem_72 : decode cX2_readsItem 72 = .ok (.bipush 33, 2) := dk_16 33 (dk_at dksX2_readsItem_3 4 rfl rfl)
theorem dX2_readsItem_74 : decode cX2_readsItem 74 = .ok (.if_icmp .eq 12, 3) := dk_159 0 12 (dk_at dksX2_readsItem_3 6 rfl rfl)
theorem dX2_readsItem_77 : decode cX2_readsItem 77 = .ok (.aload_n 0, 1) := dk_42 (dk_at dksX2_readsItem_3 9 rfl rfl)
theorem dX2_readsItem_78 : decode cX2_readsItem 78 = .ok (.invokevirtual 216, 3) := dk_182 0 216 (dk_at dksX2_readsItem_3 10 rfl rfl)
theorem dX2_readsItem_81 : decode cX2_readsItem 81 = .ok (.bipush 62, 2) := dk_16 62 (dk_at dksX2_readsItem_3 13 rfl rfl)
theorem dX2_readsItem_83 : decode cX2_readsItem 83 = .ok (.if_icmp .ne 7, 3) := dk_160 0 7 (dk_at dksX2_readsItem_3 15 rfl rfl)
theorem dX2_readsItem_86 : decode cX2_readsItem 86 = .ok (.iconst 1, 1) := dk_4 (dk_at dksX2_readsItem_3 18 rfl rfl)
theorem dX2_readsItem_87 : decode cX2_readsItem 87 = .ok (.goto 4, 3) := dk_167 0 4 (dk_at dksX2_readsItem_3 19 rfl rfl)
theorem dX2_readsItem_90 : decode cX2_readsItem 90 = .ok (.iconst 0, 1) := dk_3 (dk_at dksX2_readsItem_3 22 rfl rfl)
theorem dX2_readsItem_91 : decode cX2_readsItem 91 = .ok (.putfield 219, 3) := dk_181 0 219 (dk_at dksX2_readsItem_4 0 rfl rfl)
theorem dX2_readsItem_94 : decode cX2_readsItem 94 = .ok (.aload_n 0, 1) := dk_42 (dk_at dksX2_readsItem_4 3 rfl rfl)
theorem dX2_readsItem_95 : decode cX2_readsItem 95 = .ok (.dup, 1) := dk_89 (dk_at dksX2_readsItem_4 4 rfl rfl)
theorem dX2_readsItem_96 : decode cX2_readsItem 96 = .ok (.getfield 210, 3) := dk_180 0 210 (dk_at dksX2_readsItem_4 5 rfl rfl)
theorem dX2_readsItem_99 : decode cX2_readsItem 99 = .ok (.aload_n 0, 1) := dk_42 (dk_at dksX2_readsItem_4 8 rfl rfl)
theorem dX2_readsItem_100 : decode cX2_readsItem 100 = .ok (.getfield 219, 3) := dk_180 0 219 (dk_at dksX2_readsItem_4 9 rfl rfl)
theorem dX2_readsItem_103 : decode cX2_readsItem 103 = .ok (.ifCond .eq 7, 3) := dk_153 0 7 (dk_at dksX2_readsItem_4 12 rfl rfl)
theorem dX2_readsItem_106 : decode cX2_readsItem 106 = .ok (.iconst 1, 1) := dk_4 (dk_at dksX2_readsItem_4 15 rfl rfl)
theorem dX2_readsItem_107 : decode cX2_readsItem 107 = .ok (.goto 4, 3) := dk_167 0 4 (dk_at dksX2_readsItem_4 16 rfl rfl)
theorem dX2_readsItem_110 : decode cX2_readsItem 110 = .ok (.iconst 0, 1) := dk_3 (dk_at dksX2_readsItem_4 19 rfl rfl)
theorem dX2_readsItem_111 : decode cX2_readsItem 111 = .ok (.iadd, 1) := dk_96 (dk_at dksX2_readsItem_4 20 rfl rfl)
theorem dX2_readsItem_112 : decode cX2_readsItem 112 = .ok (.putfield 210, 3) := dk_181 0 210 (dk_at dksX2_readsItem_4 21 rfl rfl)
theorem dX2_readsItem_115 : decode cX2_readsItem 115 = .ok (.aload_n 0, 1) := dk_42 (dk_at dksX2_readsItem_5 0 rfl rfl)
theorem dX2_readsItem_116 : decode cX2_readsItem 116 = .ok (.getfield 219, 3) := dk_180 0 219 (dk_at dksX2_readsItem_5 1 rfl rfl)
theorem dX2_readsItem_119 : decode cX2_readsItem 119 = .ok (.ifCond .eq 7, 3) := dk_153 0 7 (dk_at dksX2_readsItem_5 4 rfl rfl)
theorem dX2_readsItem_122 : decode cX2_readsItem 122 = .ok (.aload_n 0, 1) := dk_42 (dk_at dksX2_readsItem_5 7 rfl rfl)
theorem dX2_readsItem_123 : decode cX2_readsItem 123 = .ok (.invokevirtual 236, 3) := dk_182 0 236 (dk_at dksX2_readsItem_5 8 rfl rfl)
theorem dX2_readsItem_126 : decode cX2_readsItem 126 = .ok (.aload_n 0, 1) := dk_42 (dk_at dksX2_readsItem_5 11 rfl rfl)
theorem dX2_readsItem_127 : decode cX2_readsItem 127 = .ok (.dup, 1) := dk_89 (dk_at dksX2_readsItem_5 12 rfl rfl)
theorem dX2_readsItem_128 : decode cX2_readsItem 128 = .ok (.getfield 223, 3) := dk_180 0 223 (dk_at dksX2_readsItem_5 13 rfl rfl)
theorem dX2_readsItem_131 : decode cX2_readsItem 131 = .ok (.iconst 1, 1) := dk_4 (dk_at dksX2_readsItem_5 16 rfl rfl)
theorem dX2_readsItem_132 : decode cX2_readsItem 132 = .ok (.iadd, 1) := dk_96 (dk_at dksX2_readsItem_5 17 rfl rfl)
theorem dX2_readsItem_133 : decode cX2_readsItem 133 = .ok (.putfield 223, 3) := dk_181 0 223 (dk_at dksX2_readsItem_5 18 rfl rfl)
theorem dX2_readsItem_136 : decode cX2_readsItem 136 = .ok (.return_, 1) := dk_177 (dk_at dksX2_readsItem_5 21 rfl rfl)
abbrev cX2_puts : ByteArray := prog_24_method_78_code
def yX2_puts : MethodName := ⟨RX2, "puts", "(II)V"⟩
def dkwX2_puts_0 : List UInt8 := [42, 180, 0, 56, 8, 42, 180, 0, 223, 104, 27, 96, 28, 79, 177]
abbrev dktX2_puts_0 : List UInt8 := dkwX2_puts_0 ++ []
theorem dksX2_puts_0 : cX2_puts.data.toList.drop 0 = dktX2_puts_0 := by decide +kernel
theorem dX2_puts_0 : decode cX2_puts 0 = .ok (.aload_n 0, 1) := dk_42 (dk_at dksX2_puts_0 0 rfl rfl)
theorem dX2_puts_1 : decode cX2_puts 1 = .ok (.getfield 56, 3) := dk_180 0 56 (dk_at dksX2_puts_0 1 rfl rfl)
theorem dX2_puts_4 : decode cX2_puts 4 = .ok (.iconst 5, 1) := dk_8 (dk_at dksX2_puts_0 4 rfl rfl)
theorem dX2_puts_5 : decode cX2_puts 5 = .ok (.aload_n 0, 1) := dk_42 (dk_at dksX2_puts_0 5 rfl rfl)
theorem dX2_puts_6 : decode cX2_puts 6 = .ok (.getfield 223, 3) := dk_180 0 223 (dk_at dksX2_puts_0 6 rfl rfl)
theorem dX2_puts_9 : decode cX2_puts 9 = .ok (.imul, 1) := dk_104 (dk_at dksX2_puts_0 9 rfl rfl)
theorem dX2_puts_10 : decode cX2_puts 10 = .ok (.iload_n 1, 1) := dk_27 (dk_at dksX2_puts_0 10 rfl rfl)
theorem dX2_puts_11 : decode cX2_puts 11 = .ok (.iadd, 1) := dk_96 (dk_at dksX2_puts_0 11 rfl rfl)
theorem dX2_puts_12 : decode cX2_puts 12 = .ok (.iload_n 2, 1) := dk_28 (dk_at dksX2_puts_0 12 rfl rfl)
theorem dX2_puts_13 : decode cX2_puts 13 = .ok (.iastore, 1) := dk_79 (dk_at dksX2_puts_0 13 rfl rfl)
theorem dX2_puts_14 : decode cX2_puts 14 = .ok (.return_, 1) := dk_177 (dk_at dksX2_puts_0 14 rfl rfl)
abbrev cX2_here : ByteArray := prog_24_method_75_code
def yX2_here : MethodName := ⟨RX2, "here", "()I"⟩
def dkwX2_here_1 : List UInt8 := [172]
abbrev dktX2_here_1 : List UInt8 := dkwX2_here_1 ++ []
def dkwX2_here_0 : List UInt8 := [42, 180, 0, 210, 42, 180, 0, 213, 162, 0, 15, 42, 180, 0, 22, 42, 180, 0, 210, 46, 167, 0, 4, 2]
abbrev dktX2_here_0 : List UInt8 := dkwX2_here_0 ++ dktX2_here_1
theorem dksX2_here_0 : cX2_here.data.toList.drop 0 = dktX2_here_0 := by decide +kernel
theorem dksX2_here_1 : cX2_here.data.toList.drop 24 = dktX2_here_1 := dk_seg dksX2_here_0 24 rfl rfl
theorem dX2_here_0 : decode cX2_here 0 = .ok (.aload_n 0, 1) := dk_42 (dk_at dksX2_here_0 0 rfl rfl)
theorem dX2_here_1 : decode cX2_here 1 = .ok (.getfield 210, 3) := dk_180 0 210 (dk_at dksX2_here_0 1 rfl rfl)
theorem dX2_here_4 : decode cX2_here 4 = .ok (.aload_n 0, 1) := dk_42 (dk_at dksX2_here_0 4 rfl rfl)
theorem dX2_here_5 : decode cX2_here 5 = .ok (.getfield 213, 3) := dk_180 0 213 (dk_at dksX2_here_0 5 rfl rfl)
theorem dX2_here_8 : decode cX2_here 8 = .ok (.if_icmp .ge 15, 3) := dk_162 0 15 (dk_at dksX2_here_0 8 rfl rfl)
theorem dX2_here_11 : decode cX2_here 11 = .ok (.aload_n 0, 1) := dk_42 (dk_at dksX2_here_0 11 rfl rfl)
theorem dX2_here_12 : decode cX2_here 12 = .ok (.getfield 22, 3) := dk_180 0 22 (dk_at dksX2_here_0 12 rfl rfl)
theorem dX2_here_15 : decode cX2_here 15 = .ok (.aload_n 0, 1) := dk_42 (dk_at dksX2_here_0 15 rfl rfl)
theorem dX2_here_16 : decode cX2_here 16 = .ok (.getfield 210, 3) := dk_180 0 210 (dk_at dksX2_here_0 16 rfl rfl)
theorem dX2_here_19 : decode cX2_here 19 = .ok (.iaload, 1) := dk_46 (dk_at dksX2_here_0 19 rfl rfl)
theorem dX2_here_20 : decode cX2_here 20 = .ok (.goto 4, 3) := dk_167 0 4 (dk_at dksX2_here_0 20 rfl rfl)
theorem dX2_here_23 : decode cX2_here 23 = .ok (.iconst (-1), 1) := dk_2 (dk_at dksX2_here_0 23 rfl rfl)
theorem dX2_here_24 : decode cX2_here 24 = .ok (.ireturn, 1) := dk_172 (dk_at dksX2_here_1 0 rfl rfl)
abbrev cX2_must : ByteArray := prog_24_method_76_code
def yX2_must : MethodName := ⟨RX2, "must", "(II)I"⟩
def dkwX2_must_2 : List UInt8 := [96, 181, 0, 210, 29, 27, 100, 172]
abbrev dktX2_must_2 : List UInt8 := dkwX2_must_2 ++ []
def dkwX2_must_1 : List UInt8 := [167, 0, 4, 3, 181, 0, 219, 42, 89, 180, 0, 210, 42, 180, 0, 219, 153, 0, 7, 4, 167, 0, 4, 3]
abbrev dktX2_must_1 : List UInt8 := dkwX2_must_1 ++ dktX2_must_2
def dkwX2_must_0 : List UInt8 := [42, 182, 0, 216, 62, 42, 42, 180, 0, 219, 153, 0, 16, 29, 27, 28, 184, 0, 59, 153, 0, 7, 4]
abbrev dktX2_must_0 : List UInt8 := dkwX2_must_0 ++ dktX2_must_1
theorem dksX2_must_0 : cX2_must.data.toList.drop 0 = dktX2_must_0 := by decide +kernel
theorem dksX2_must_1 : cX2_must.data.toList.drop 23 = dktX2_must_1 := dk_seg dksX2_must_0 23 rfl rfl
theorem dksX2_must_2 : cX2_must.data.toList.drop 47 = dktX2_must_2 := dk_seg dksX2_must_1 24 rfl rfl
theorem dX2_must_0 : decode cX2_must 0 = .ok (.aload_n 0, 1) := dk_42 (dk_at dksX2_must_0 0 rfl rfl)
theorem dX2_must_1 : decode cX2_must 1 = .ok (.invokevirtual 216, 3) := dk_182 0 216 (dk_at dksX2_must_0 1 rfl rfl)
theorem dX2_must_4 : decode cX2_must 4 = .ok (.istore_n 3, 1) := dk_62 (dk_at dksX2_must_0 4 rfl rfl)
theorem dX2_must_5 : decode cX2_must 5 = .ok (.aload_n 0, 1) := dk_42 (dk_at dksX2_must_0 5 rfl rfl)
theorem dX2_must_6 : decode cX2_must 6 = .ok (.aload_n 0, 1) := dk_42 (dk_at dksX2_must_0 6 rfl rfl)
theorem dX2_must_7 : decode cX2_must 7 = .ok (.getfield 219, 3) := dk_180 0 219 (dk_at dksX2_must_0 7 rfl rfl)
theorem dX2_must_10 : decode cX2_must 10 = .ok (.ifCond .eq 16, 3) := dk_153 0 16 (dk_at dksX2_must_0 10 rfl rfl)
theorem dX2_must_13 : decode cX2_must 13 = .ok (.iload_n 3, 1) := dk_29 (dk_at dksX2_must_0 13 rfl rfl)
theorem dX2_must_14 : decode cX2_must 14 = .ok (.iload_n 1, 1) := dk_27 (dk_at dksX2_must_0 14 rfl rfl)
theorem dX2_must_15 : decode cX2_must 15 = .ok (.iload_n 2, 1) := dk_28 (dk_at dksX2_must_0 15 rfl rfl)
theorem dX2_must_16 : decode cX2_must 16 = .ok (.invokestatic 59, 3) := dk_184 0 59 (dk_at dksX2_must_0 16 rfl rfl)
theorem dX2_must_19 : decode cX2_must 19 = .ok (.ifCond .eq 7, 3) := dk_153 0 7 (dk_at dksX2_must_0 19 rfl rfl)
theorem dX2_must_22 : decode cX2_must 22 = .ok (.iconst 1, 1) := dk_4 (dk_at dksX2_must_0 22 rfl rfl)
theorem dX2_must_23 : decode cX2_must 23 = .ok (.goto 4, 3) := dk_167 0 4 (dk_at dksX2_must_1 0 rfl rfl)
theorem dX2_must_26 : decode cX2_must 26 = .ok (.iconst 0, 1) := dk_3 (dk_at dksX2_must_1 3 rfl rfl)
theorem dX2_must_27 : decode cX2_must 27 = .ok (.putfield 219, 3) := dk_181 0 219 (dk_at dksX2_must_1 4 rfl rfl)
theorem dX2_must_30 : decode cX2_must 30 = .ok (.aload_n 0, 1) := dk_42 (dk_at dksX2_must_1 7 rfl rfl)
theorem dX2_must_31 : decode cX2_must 31 = .ok (.dup, 1) := dk_89 (dk_at dksX2_must_1 8 rfl rfl)
theorem dX2_must_32 : decode cX2_must 32 = .ok (.getfield 210, 3) := dk_180 0 210 (dk_at dksX2_must_1 9 rfl rfl)
theorem dX2_must_35 : decode cX2_must 35 = .ok (.aload_n 0, 1) := dk_42 (dk_at dksX2_must_1 12 rfl rfl)
theorem dX2_must_36 : decode cX2_must 36 = .ok (.getfield 219, 3) := dk_180 0 219 (dk_at dksX2_must_1 13 rfl rfl)
theorem dX2_must_39 : decode cX2_must 39 = .ok (.ifCond .eq 7, 3) := dk_153 0 7 (dk_at dksX2_must_1 16 rfl rfl)
theorem dX2_must_42 : decode cX2_must 42 = .ok (.iconst 1, 1) := dk_4 (dk_at dksX2_must_1 19 rfl rfl)
theorem dX2_must_43 : decode cX2_must 43 = .ok (.goto 4, 3) := dk_167 0 4 (dk_at dksX2_must_1 20 rfl rfl)
theorem dX2_must_46 : decode cX2_must 46 = .ok (.iconst 0, 1) := dk_3 (dk_at dksX2_must_1 23 rfl rfl)
theorem dX2_must_47 : decode cX2_must 47 = .ok (.iadd, 1) := dk_96 (dk_at dksX2_must_2 0 rfl rfl)
theorem dX2_must_48 : decode cX2_must 48 = .ok (.putfield 210, 3) := dk_181 0 210 (dk_at dksX2_must_2 1 rfl rfl)
theorem dX2_must_51 : decode cX2_must 51 = .ok (.iload_n 3, 1) := dk_29 (dk_at dksX2_must_2 4 rfl rfl)
theorem dX2_must_52 : decode cX2_must 52 = .ok (.iload_n 1, 1) := dk_27 (dk_at dksX2_must_2 5 rfl rfl)
theorem dX2_must_53 : decode cX2_must 53 = .ok (.isub, 1) := dk_100 (dk_at dksX2_must_2 6 rfl rfl)
theorem dX2_must_54 : decode cX2_must 54 = .ok (.ireturn, 1) := dk_172 (dk_at dksX2_must_2 7 rfl rfl)
abbrev cX2_readsTarget : ByteArray := prog_24_method_79_code
def yX2_readsTarget : MethodName := ⟨RX2, "readsTarget", "()V"⟩
def dkwX2_readsTarget_7 : List UInt8 := [96, 61, 42, 7, 28, 182, 0, 229, 177]
abbrev dktX2_readsTarget_7 : List UInt8 := dkwX2_readsTarget_7 ++ []
def dkwX2_readsTarget_6 : List UInt8 := [16, 45, 160, 0, 24, 42, 89, 180, 0, 210, 4, 96, 181, 0, 210, 28, 42, 16, 48, 16, 57, 182, 0, 226]
abbrev dktX2_readsTarget_6 : List UInt8 := dkwX2_readsTarget_6 ++ dktX2_readsTarget_7
def dkwX2_readsTarget_5 : List UInt8 := [16, 10, 42, 16, 48, 16, 57, 182, 0, 226, 104, 96, 61, 42, 180, 0, 219, 153, 0, 33, 42, 182, 0, 216]
abbrev dktX2_readsTarget_5 : List UInt8 := dkwX2_readsTarget_5 ++ dktX2_readsTarget_6
def dkwX2_readsTarget_4 : List UInt8 := [16, 100, 42, 16, 48, 16, 57, 182, 0, 226, 104, 96, 61, 42, 16, 46, 16, 46, 182, 0, 226, 87, 28]
abbrev dktX2_readsTarget_4 : List UInt8 := dkwX2_readsTarget_4 ++ dktX2_readsTarget_5
def dkwX2_readsTarget_3 : List UInt8 := [180, 0, 210, 42, 180, 0, 219, 153, 0, 7, 4, 167, 0, 4, 3, 96, 181, 0, 210, 17, 3, 232, 27, 104]
abbrev dktX2_readsTarget_3 : List UInt8 := dkwX2_readsTarget_3 ++ dktX2_readsTarget_4
def dkwX2_readsTarget_2 : List UInt8 := [42, 42, 182, 0, 216, 182, 0, 233, 60, 42, 27, 158, 0, 7, 4, 167, 0, 4, 3, 181, 0, 219, 42, 89]
abbrev dktX2_readsTarget_2 : List UInt8 := dkwX2_readsTarget_2 ++ dktX2_readsTarget_3
def dkwX2_readsTarget_1 : List UInt8 := [154, 0, 4, 177, 42, 182, 0, 216, 16, 42, 160, 0, 14, 42, 89, 180, 0, 210, 4, 96, 181, 0, 210, 177]
abbrev dktX2_readsTarget_1 : List UInt8 := dkwX2_readsTarget_1 ++ dktX2_readsTarget_2
def dkwX2_readsTarget_0 : List UInt8 := [42, 6, 42, 16, 97, 16, 102, 182, 0, 226, 182, 0, 229, 42, 7, 3, 182, 0, 229, 42, 180, 0, 219]
abbrev dktX2_readsTarget_0 : List UInt8 := dkwX2_readsTarget_0 ++ dktX2_readsTarget_1
theorem dksX2_readsTarget_0 : cX2_readsTarget.data.toList.drop 0 = dktX2_readsTarget_0 := by decide +kernel
theorem dksX2_readsTarget_1 : cX2_readsTarget.data.toList.drop 23 = dktX2_readsTarget_1 := dk_seg dksX2_readsTarget_0 23 rfl rfl
theorem dksX2_readsTarget_2 : cX2_readsTarget.data.toList.drop 47 = dktX2_readsTarget_2 := dk_seg dksX2_readsTarget_1 24 rfl rfl
theorem dksX2_readsTarget_3 : cX2_readsTarget.data.toList.drop 71 = dktX2_readsTarget_3 := dk_seg dksX2_readsTarget_2 24 rfl rfl
theorem dksX2_readsTarget_4 : cX2_readsTarget.data.toList.drop 95 = dktX2_readsTarget_4 := dk_seg dksX2_readsTarget_3 24 rfl rfl
theorem dksX2_readsTarget_5 : cX2_readsTarget.data.toList.drop 118 = dktX2_readsTarget_5 := dk_seg dksX2_readsTarget_4 23 rfl rfl
theorem dksX2_readsTarget_6 : cX2_readsTarget.data.toList.drop 142 = dktX2_readsTarget_6 := dk_seg dksX2_readsTarget_5 24 rfl rfl
theorem dksX2_readsTarget_7 : cX2_readsTarget.data.toList.drop 166 = dktX2_readsTarget_7 := dk_seg dksX2_readsTarget_6 24 rfl rfl
theorem dX2_readsTarget_0 : decode cX2_readsTarget 0 = .ok (.aload_n 0, 1) := dk_42 (dk_at dksX2_readsTarget_0 0 rfl rfl)
theorem dX2_readsTarget_1 : decode cX2_readsTarget 1 = .ok (.iconst 3, 1) := dk_6 (dk_at dksX2_readsTarget_0 1 rfl rfl)
theorem dX2_readsTarget_2 : decode cX2_readsTarget 2 = .ok (.aload_n 0, 1) := dk_42 (dk_at dksX2_readsTarget_0 2 rfl rfl)
theorem dX2_readsTarget_3 : decode cX2_readsTarget 3 = .ok (.bipush 97, 2) := dk_16 97 (dk_at dksX2_readsTarget_0 3 rfl rfl)
theorem dX2_readsTarget_5 : decode cX2_readsTarget 5 = .ok (.bipush 102, 2) := dk_16 102 (dk_at dksX2_readsTarget_0 5 rfl rfl)
theorem dX2_readsTarget_7 : decode cX2_readsTarget 7 = .ok (.invokevirtual 226, 3) := dk_182 0 226 (dk_at dksX2_readsTarget_0 7 rfl rfl)
theorem dX2_readsTarget_10 : decode cX2_readsTarget 10 = .ok (.invokevirtual 229, 3) := dk_182 0 229 (dk_at dksX2_readsTarget_0 10 rfl rfl)
theorem dX2_readsTarget_13 : decode cX2_readsTarget 13 = .ok (.aload_n 0, 1) := dk_42 (dk_at dksX2_readsTarget_0 13 rfl rfl)
theorem dX2_readsTarget_14 : decode cX2_readsTarget 14 = .ok (.iconst 4, 1) := dk_7 (dk_at dksX2_readsTarget_0 14 rfl rfl)
theorem dX2_readsTarget_15 : decode cX2_readsTarget 15 = .ok (.iconst 0, 1) := dk_3 (dk_at dksX2_readsTarget_0 15 rfl rfl)
theorem dX2_readsTarget_16 : decode cX2_readsTarget 16 = .ok (.invokevirtual 229, 3) := dk_182 0 229 (dk_at dksX2_readsTarget_0 16 rfl rfl)
theorem dX2_readsTarget_19 : decode cX2_readsTarget 19 = .ok (.aload_n 0, 1) := dk_42 (dk_at dksX2_readsTarget_0 19 rfl rfl)
theorem dX2_readsTarget_20 : decode cX2_readsTarget 20 = .ok (.getfield 219, 3) := dk_180 0 219 (dk_at dksX2_readsTarget_0 20 rfl rfl)
theorem dX2_readsTarget_23 : decode cX2_readsTarget 23 = .ok (.ifCond .ne 4, 3) := dk_154 0 4 (dk_at dksX2_readsTarget_1 0 rfl rfl)
theorem dX2_readsTarget_26 : decode cX2_readsTarget 26 = .ok (.return_, 1) := dk_177 (dk_at dksX2_readsTarget_1 3 rfl rfl)
theorem dX2_readsTarget_27 : decode cX2_readsTarget 27 = .ok (.aload_n 0, 1) := dk_42 (dk_at dksX2_readsTarget_1 4 rfl rfl)
theorem dX2_readsTarget_28 : decode cX2_readsTarget 28 = .ok (.invokevirtual 216, 3) := dk_182 0 216 (dk_at dksX2_readsTarget_1 5 rfl rfl)
theorem dX2_readsTarget_31 : decode cX2_readsTarget 31 = .ok (.bipush 42, 2) := dk_16 42 (dk_at dksX2_readsTarget_1 8 rfl rfl)
theorem dX2_readsTarget_33 : decode cX2_readsTarget 33 = .ok (.if_icmp .ne 14, 3) := dk_160 0 14 (dk_at dksX2_readsTarget_1 10 rfl rfl)
theorem dX2_readsTarget_36 : decode cX2_readsTarget 36 = .ok (.aload_n 0, 1) := dk_42 (dk_at dksX2_readsTarget_1 13 rfl rfl)
theorem dX2_readsTarget_37 : decode cX2_readsTarget 37 = .ok (.dup, 1) := dk_89 (dk_at dksX2_readsTarget_1 14 rfl rfl)
theorem dX2_readsTarget_38 : decode cX2_readsTarget 38 = .ok (.getfield 210, 3) := dk_180 0 210 (dk_at dksX2_readsTarget_1 15 rfl rfl)
theorem dX2_readsTarget_41 : decode cX2_readsTarget 41 = .ok (.iconst 1, 1) := dk_4 (dk_at dksX2_readsTarget_1 18 rfl rfl)
theorem dX2_readsTarget_42 : decode cX2_readsTarget 42 = .ok (.iadd, 1) := dk_96 (dk_at dksX2_readsTarget_1 19 rfl rfl)
theorem dX2_readsTarget_43 : decode cX2_readsTarget 43 = .ok (.putfield 210, 3) := dk_181 0 210 (dk_at dksX2_readsTarget_1 20 rfl rfl)
theorem dX2_readsTarget_46 : decode cX2_readsTarget 46 = .ok (.return_, 1) := dk_177 (dk_at dksX2_readsTarget_1 23 rfl rfl)
theorem dX2_readsTarget_47 : decode cX2_readsTarget 47 = .ok (.aload_n 0, 1) := dk_42 (dk_at dksX2_readsTarget_2 0 rfl rfl)
theorem dX2_readsTarget_48 : decode cX2_readsTarget 48 = .ok (.aload_n 0, 1) := dk_42 (dk_at dksX2_readsTarget_2 1 rfl rfl)
theorem dX2_readsTarget_49 : decode cX2_readsTarget 49 = .ok (.invokevirtual 216, 3) := dk_182 0 216 (dk_at dksX2_readsTarget_2 2 rfl rfl)
theorem dX2_readsTarget_52 : decode cX2_readsTarget 52 = .ok (.invokevirtual 233, 3) := dk_182 0 233 (dk_at dksX2_readsTarget_2 5 rfl rfl)
theorem dX2_readsTarget_55 : decode cX2_readsTarget 55 = .ok (.istore_n 1, 1) := dk_60 (dk_at dksX2_readsTarget_2 8 rfl rfl)
theorem dX2_readsTarget_56 : decode cX2_readsTarget 56 = .ok (.aload_n 0, 1) := dk_42 (dk_at dksX2_readsTarget_2 9 rfl rfl)
theorem dX2_readsTarget_57 : decode cX2_readsTarget 57 = .ok (.iload_n 1, 1) := dk_27 (dk_at dksX2_readsTarget_2 10 rfl rfl)
theorem dX2_readsTarget_58 : decode cX2_readsTarget 58 = .ok (.ifCond .le 7, 3) := dk_158 0 7 (dk_at dksX2_readsTarget_2 11 rfl rfl)
theorem dX2_readsTarget_61 : decode cX2_readsTarget 61 = .ok (.iconst 1, 1) := dk_4 (dk_at dksX2_readsTarget_2 14 rfl rfl)
theorem dX2_readsTarget_62 : decode cX2_readsTarget 62 = .ok (.goto 4, 3) := dk_167 0 4 (dk_at dksX2_readsTarget_2 15 rfl rfl)
theorem dX2_readsTarget_65 : decode cX2_readsTarget 65 = .ok (.iconst 0, 1) := dk_3 (dk_at dksX2_readsTarget_2 18 rfl rfl)
theorem dX2_readsTarget_66 : decode cX2_readsTarget 66 = .ok (.putfield 219, 3) := dk_181 0 219 (dk_at dksX2_readsTarget_2 19 rfl rfl)
theorem dX2_readsTarget_69 : decode cX2_readsTarget 69 = .ok (.aload_n 0, 1) := dk_42 (dk_at dksX2_readsTarget_2 22 rfl rfl)
theorem dX2_readsTarget_70 : decode cX2_readsTarget 70 = .ok (.dup, 1) := dk_89 (dk_at dksX2_readsTarget_2 23 rfl rfl)
theorem dX2_readsTarget_71 : decode cX2_readsTarget 71 = .ok (.getfield 210, 3) := dk_180 0 210 (dk_at dksX2_readsTarget_3 0 rfl rfl)
theorem dX2_readsTarget_74 : decode cX2_readsTarget 74 = .ok (.aload_n 0, 1) := dk_42 (dk_at dksX2_readsTarget_3 3 rfl rfl)
theorem dX2_readsTarget_75 : decode cX2_readsTarget 75 = .ok (.getfield 219, 3) := dk_180 0 219 (dk_at dksX2_readsTarget_3 4 rfl rfl)
theorem dX2_readsTarget_78 : decode cX2_readsTarget 78 = .ok (.ifCond .eq 7, 3) := dk_153 0 7 (dk_at dksX2_readsTarget_3 7 rfl rfl)
theorem dX2_readsTarget_81 : decode cX2_readsTarget 81 = .ok (.iconst 1, 1) := dk_4 (dk_at dksX2_readsTarget_3 10 rfl rfl)
theorem dX2_readsTarget_82 : decode cX2_readsTarget 82 = .ok (.goto 4, 3) := dk_167 0 4 (dk_at dksX2_readsTarget_3 11 rfl rfl)
theorem dX2_readsTarget_85 : decode cX2_readsTarget 85 = .ok (.iconst 0, 1) := dk_3 (dk_at dksX2_readsTarget_3 14 rfl rfl)
theorem dX2_readsTarget_86 : decode cX2_readsTarget 86 = .ok (.iadd, 1) := dk_96 (dk_at dksX2_readsTarget_3 15 rfl rfl)
theorem dX2_readsTarget_87 : decode cX2_readsTarget 87 = .ok (.putfield 210, 3) := dk_181 0 210 (dk_at dksX2_readsTarget_3 16 rfl rfl)
theorem dX2_readsTarget_90 : decode cX2_readsTarget 90 = .ok (.sipush 1000, 3) := dk_17 3 232 (dk_at dksX2_readsTarget_3 19 rfl rfl)
theorem dX2_readsTarget_93 : decode cX2_readsTarget 93 = .ok (.iload_n 1, 1) := dk_27 (dk_at dksX2_readsTarget_3 22 rfl rfl)
theorem dX2_readsTarget_94 : decode cX2_readsTarget 94 = .ok (.imul, 1) := dk_104 (dk_at dksX2_readsTarget_3 23 rfl rfl)
theorem dX2_readsTarget_95 : decode cX2_readsTarget 95 = .ok (.bipush 100, 2) := dk_16 100 (dk_at dksX2_readsTarget_4 0 rfl rfl)
theorem dX2_readsTarget_97 : decode cX2_readsTarget 97 = .ok (.aload_n 0, 1) := dk_42 (dk_at dksX2_readsTarget_4 2 rfl rfl)
theorem dX2_readsTarget_98 : decode cX2_readsTarget 98 = .ok (.bipush 48, 2) := dk_16 48 (dk_at dksX2_readsTarget_4 3 rfl rfl)
theorem dX2_readsTarget_100 : decode cX2_readsTarget 100 = .ok (.bipush 57, 2) := dk_16 57 (dk_at dksX2_readsTarget_4 5 rfl rfl)
theorem dX2_readsTarget_102 : decode cX2_readsTarget 102 = .ok (.invokevirtual 226, 3) := dk_182 0 226 (dk_at dksX2_readsTarget_4 7 rfl rfl)
theorem dX2_readsTarget_105 : decode cX2_readsTarget 105 = .ok (.imul, 1) := dk_104 (dk_at dksX2_readsTarget_4 10 rfl rfl)
theorem dX2_readsTarget_106 : decode cX2_readsTarget 106 = .ok (.iadd, 1) := dk_96 (dk_at dksX2_readsTarget_4 11 rfl rfl)
theorem dX2_readsTarget_107 : decode cX2_readsTarget 107 = .ok (.istore_n 2, 1) := dk_61 (dk_at dksX2_readsTarget_4 12 rfl rfl)
theorem dX2_readsTarget_108 : decode cX2_readsTarget 108 = .ok (.aload_n 0, 1) := dk_42 (dk_at dksX2_readsTarget_4 13 rfl rfl)
theorem dX2_readsTarget_109 : decode cX2_readsTarget 109 = .ok (.bipush 46, 2) := dk_16 46 (dk_at dksX2_readsTarget_4 14 rfl rfl)
theorem dX2_readsTarget_111 : decode cX2_readsTarget 111 = .ok (.bipush 46, 2) := dk_16 46 (dk_at dksX2_readsTarget_4 16 rfl rfl)
theorem dX2_readsTarget_113 : decode cX2_readsTarget 113 = .ok (.invokevirtual 226, 3) := dk_182 0 226 (dk_at dksX2_readsTarget_4 18 rfl rfl)
theorem dX2_readsTarget_116 : decode cX2_readsTarget 116 = .ok (.pop, 1) := dk_87 (dk_at dksX2_readsTarget_4 21 rfl rfl)
theorem dX2_readsTarget_117 : decode cX2_readsTarget 117 = .ok (.iload_n 2, 1) := dk_28 (dk_at dksX2_readsTarget_4 22 rfl rfl)
theorem dX2_readsTarget_118 : decode cX2_readsTarget 118 = .ok (.bipush 10, 2) := dk_16 10 (dk_at dksX2_readsTarget_5 0 rfl rfl)
theorem dX2_readsTarget_120 : decode cX2_readsTarget 120 = .ok (.aload_n 0, 1) := dk_42 (dk_at dksX2_readsTarget_5 2 rfl rfl)
theorem dX2_readsTarget_121 : decode cX2_readsTarget 121 = .ok (.bipush 48, 2) := dk_16 48 (dk_at dksX2_readsTarget_5 3 rfl rfl)
theorem dX2_readsTarget_123 : decode cX2_readsTarget 123 = .ok (.bipush 57, 2) := dk_16 57 (dk_at dksX2_readsTarget_5 5 rfl rfl)
theorem dX2_readsTarget_125 : decode cX2_readsTarget 125 = .ok (.invokevirtual 226, 3) := dk_182 0 226 (dk_at dksX2_readsTarget_5 7 rfl rfl)
theorem dX2_readsTarget_128 : decode cX2_readsTarget 128 = .ok (.imul, 1) := dk_104 (dk_at dksX2_readsTarget_5 10 rfl rfl)
theorem dX2_readsTarget_129 : decode cX2_readsTarget 129 = .ok (.iadd, 1) := dk_96 (dk_at dksX2_readsTarget_5 11 rfl rfl)
theorem dX2_readsTarget_130 : decode cX2_readsTarget 130 = .ok (.istore_n 2, 1) := dk_61 (dk_at dksX2_readsTarget_5 12 rfl rfl)
theorem dX2_readsTarget_131 : decode cX2_readsTarget 131 = .ok (.aload_n 0, 1) := dk_42 (dk_at dksX2_readsTarget_5 13 rfl rfl)
theorem dX2_readsTarget_132 : decode cX2_readsTarget 132 = .ok (.getfield 219, 3) := dk_180 0 219 (dk_at dksX2_readsTarget_5 14 rfl rfl)
theorem dX2_readsTarget_135 : decode cX2_readsTarget 135 = .ok (.ifCond .eq 33, 3) := dk_153 0 33 (dk_at dksX2_readsTarget_5 17 rfl rfl)
theorem dX2_readsTarget_138 : decode cX2_readsTarget 138 = .ok (.aload_n 0, 1) := dk_42 (dk_at dksX2_readsTarget_5 20 rfl rfl)
theorem dX2_readsTarget_139 : decode cX2_readsTarget 139 = .ok (.invokevirtual 216, 3) := dk_182 0 216 (dk_at dksX2_readsTarget_5 21 rfl rfl)
theorem dX2_readsTarget_142 : decode cX2_readsTarget 142 = .ok (.bipush 45, 2) := dk_16 45 (dk_at dksX2_readsTarget_6 0 rfl rfl)
theorem dX2_readsTarget_144 : decode cX2_readsTarget 144 = .ok (.if_icmp .ne 24, 3) := dk_160 0 24 (dk_at dksX2_readsTarget_6 2 rfl rfl)
theorem dX2_readsTarget_147 : decode cX2_readsTarget 147 = .ok (.aload_n 0, 1) := dk_42 (dk_at dksX2_readsTarget_6 5 rfl rfl)
theorem dX2_readsTarget_148 : decode cX2_readsTarget 148 = .ok (.dup, 1) := dk_89 (dk_at dksX2_readsTarget_6 6 rfl rfl)
theorem dX2_readsTarget_149 : decode cX2_readsTarget 149 = .ok (.getfield 210, 3) := dk_180 0 210 (dk_at dksX2_readsTarget_6 7 rfl rfl)
theorem dX2_readsTarget_152 : decode cX2_readsTarget 152 = .ok (.iconst 1, 1) := dk_4 (dk_at dksX2_readsTarget_6 10 rfl rfl)
theorem dX2_readsTarget_153 : decode cX2_readsTarget 153 = .ok (.iadd, 1) := dk_96 (dk_at dksX2_readsTarget_6 11 rfl rfl)
theorem dX2_readsTarget_154 : decode cX2_readsTarget 154 = .ok (.putfield 210, 3) := dk_181 0 210 (dk_at dksX2_readsTarget_6 12 rfl rfl)
theorem dX2_readsTarget_157 : decode cX2_readsTarget 157 = .ok (.iload_n 2, 1) := dk_28 (dk_at dksX2_readsTarget_6 15 rfl rfl)
theorem dX2_readsTarget_158 : decode cX2_readsTarget 158 = .ok (.aload_n 0, 1) := dk_42 (dk_at dksX2_readsTarget_6 16 rfl rfl)
theorem dX2_readsTarget_159 : decode cX2_readsTarget 159 = .ok (.bipush 48, 2) := dk_16 48 (dk_at dksX2_readsTarget_6 17 rfl rfl)
theorem dX2_readsTarget_161 : decode cX2_readsTarget 161 = .ok (.bipush 57, 2) := dk_16 57 (dk_at dksX2_readsTarget_6 19 rfl rfl)
theorem dX2_readsTarget_163 : decode cX2_readsTarget 163 = .ok (.invokevirtual 226, 3) := dk_182 0 226 (dk_at dksX2_readsTarget_6 21 rfl rfl)
theorem dX2_readsTarget_166 : decode cX2_readsTarget 166 = .ok (.iadd, 1) := dk_96 (dk_at dksX2_readsTarget_7 0 rfl rfl)
theorem dX2_readsTarget_167 : decode cX2_readsTarget 167 = .ok (.istore_n 2, 1) := dk_61 (dk_at dksX2_readsTarget_7 1 rfl rfl)
theorem dX2_readsTarget_168 : decode cX2_readsTarget 168 = .ok (.aload_n 0, 1) := dk_42 (dk_at dksX2_readsTarget_7 2 rfl rfl)
theorem dX2_readsTarget_169 : decode cX2_readsTarget 169 = .ok (.iconst 4, 1) := dk_7 (dk_at dksX2_readsTarget_7 3 rfl rfl)
theorem dX2_readsTarget_170 : decode cX2_readsTarget 170 = .ok (.iload_n 2, 1) := dk_28 (dk_at dksX2_readsTarget_7 4 rfl rfl)
theorem dX2_readsTarget_171 : decode cX2_readsTarget 171 = .ok (.invokevirtual 229, 3) := dk_182 0 229 (dk_at dksX2_readsTarget_7 5 rfl rfl)
theorem dX2_readsTarget_174 : decode cX2_readsTarget 174 = .ok (.return_, 1) := dk_177 (dk_at dksX2_readsTarget_7 8 rfl rfl)
abbrev cX2_among : ByteArray := prog_24_method_77_code
def yX2_among : MethodName := ⟨RX2, "among", "(I)I"⟩
def dkwX2_among_2 : List UInt8 := [167, 0, 4, 3, 172]
abbrev dktX2_among_2 : List UInt8 := dkwX2_among_2 ++ []
def dkwX2_among_1 : List UInt8 := [160, 0, 7, 6, 167, 0, 24, 27, 16, 94, 160, 0, 7, 7, 167, 0, 14, 27, 16, 126, 160, 0, 7, 8]
abbrev dktX2_among_1 : List UInt8 := dkwX2_among_1 ++ dktX2_among_2
def dkwX2_among_0 : List UInt8 := [27, 16, 61, 160, 0, 7, 4, 167, 0, 44, 27, 16, 60, 160, 0, 7, 5, 167, 0, 34, 27, 16, 43]
abbrev dktX2_among_0 : List UInt8 := dkwX2_among_0 ++ dktX2_among_1
theorem dksX2_among_0 : cX2_among.data.toList.drop 0 = dktX2_among_0 := by decide +kernel
theorem dksX2_among_1 : cX2_among.data.toList.drop 23 = dktX2_among_1 := dk_seg dksX2_among_0 23 rfl rfl
theorem dksX2_among_2 : cX2_among.data.toList.drop 47 = dktX2_among_2 := dk_seg dksX2_among_1 24 rfl rfl
theorem dX2_among_0 : decode cX2_among 0 = .ok (.iload_n 1, 1) := dk_27 (dk_at dksX2_among_0 0 rfl rfl)
theorem dX2_among_1 : decode cX2_among 1 = .ok (.bipush 61, 2) := dk_16 61 (dk_at dksX2_among_0 1 rfl rfl)
theorem dX2_among_3 : decode cX2_among 3 = .ok (.if_icmp .ne 7, 3) := dk_160 0 7 (dk_at dksX2_among_0 3 rfl rfl)
theorem dX2_among_6 : decode cX2_among 6 = .ok (.iconst 1, 1) := dk_4 (dk_at dksX2_among_0 6 rfl rfl)
theorem dX2_among_7 : decode cX2_among 7 = .ok (.goto 44, 3) := dk_167 0 44 (dk_at dksX2_among_0 7 rfl rfl)
theorem dX2_among_10 : decode cX2_among 10 = .ok (.iload_n 1, 1) := dk_27 (dk_at dksX2_among_0 10 rfl rfl)
theorem dX2_among_11 : decode cX2_among 11 = .ok (.bipush 60, 2) := dk_16 60 (dk_at dksX2_among_0 11 rfl rfl)
theorem dX2_among_13 : decode cX2_among 13 = .ok (.if_icmp .ne 7, 3) := dk_160 0 7 (dk_at dksX2_among_0 13 rfl rfl)
theorem dX2_among_16 : decode cX2_among 16 = .ok (.iconst 2, 1) := dk_5 (dk_at dksX2_among_0 16 rfl rfl)
theorem dX2_among_17 : decode cX2_among 17 = .ok (.goto 34, 3) := dk_167 0 34 (dk_at dksX2_among_0 17 rfl rfl)
theorem dX2_among_20 : decode cX2_among 20 = .ok (.iload_n 1, 1) := dk_27 (dk_at dksX2_among_0 20 rfl rfl)
theorem dX2_among_21 : decode cX2_among 21 = .ok (.bipush 43, 2) := dk_16 43 (dk_at dksX2_among_0 21 rfl rfl)
theorem dX2_among_23 : decode cX2_among 23 = .ok (.if_icmp .ne 7, 3) := dk_160 0 7 (dk_at dksX2_among_1 0 rfl rfl)
theorem dX2_among_26 : decode cX2_among 26 = .ok (.iconst 3, 1) := dk_6 (dk_at dksX2_among_1 3 rfl rfl)
theorem dX2_among_27 : decode cX2_among 27 = .ok (.goto 24, 3) := dk_167 0 24 (dk_at dksX2_among_1 4 rfl rfl)
theorem dX2_among_30 : decode cX2_among 30 = .ok (.iload_n 1, 1) := dk_27 (dk_at dksX2_among_1 7 rfl rfl)
theorem dX2_among_31 : decode cX2_among 31 = .ok (.bipush 94, 2) := dk_16 94 (dk_at dksX2_among_1 8 rfl rfl)
theorem dX2_among_33 : decode cX2_among 33 = .ok (.if_icmp .ne 7, 3) := dk_160 0 7 (dk_at dksX2_among_1 10 rfl rfl)
theorem dX2_among_36 : decode cX2_among 36 = .ok (.iconst 4, 1) := dk_7 (dk_at dksX2_among_1 13 rfl rfl)
theorem dX2_among_37 : decode cX2_among 37 = .ok (.goto 14, 3) := dk_167 0 14 (dk_at dksX2_among_1 14 rfl rfl)
theorem dX2_among_40 : decode cX2_among 40 = .ok (.iload_n 1, 1) := dk_27 (dk_at dksX2_among_1 17 rfl rfl)
theorem dX2_among_41 : decode cX2_among 41 = .ok (.bipush 126, 2) := dk_16 126 (dk_at dksX2_among_1 18 rfl rfl)
theorem dX2_among_43 : decode cX2_among 43 = .ok (.if_icmp .ne 7, 3) := dk_160 0 7 (dk_at dksX2_among_1 20 rfl rfl)
theorem dX2_among_46 : decode cX2_among 46 = .ok (.iconst 5, 1) := dk_8 (dk_at dksX2_among_1 23 rfl rfl)
theorem dX2_among_47 : decode cX2_among 47 = .ok (.goto 4, 3) := dk_167 0 4 (dk_at dksX2_among_2 0 rfl rfl)
theorem dX2_among_50 : decode cX2_among 50 = .ok (.iconst 0, 1) := dk_3 (dk_at dksX2_among_2 3 rfl rfl)
theorem dX2_among_51 : decode cX2_among 51 = .ok (.ireturn, 1) := dk_172 (dk_at dksX2_among_2 4 rfl rfl)
abbrev cX2_fault : ByteArray := prog_24_method_83_code
def yX2_fault : MethodName := ⟨RX2, "fault", "(Z)I"⟩
def dkwX2_fault_1 : List UInt8 := [167, 0, 4, 28, 172]
abbrev dktX2_fault_1 : List UInt8 := dkwX2_fault_1 ++ []
def dkwX2_fault_0 : List UInt8 := [27, 153, 0, 10, 42, 180, 0, 29, 167, 0, 7, 42, 180, 0, 25, 61, 28, 2, 160, 0, 8, 16, 253]
abbrev dktX2_fault_0 : List UInt8 := dkwX2_fault_0 ++ dktX2_fault_1
theorem dksX2_fault_0 : cX2_fault.data.toList.drop 0 = dktX2_fault_0 := by decide +kernel
theorem dksX2_fault_1 : cX2_fault.data.toList.drop 23 = dktX2_fault_1 := dk_seg dksX2_fault_0 23 rfl rfl
theorem dX2_fault_0 : decode cX2_fault 0 = .ok (.iload_n 1, 1) := dk_27 (dk_at dksX2_fault_0 0 rfl rfl)
theorem dX2_fault_1 : decode cX2_fault 1 = .ok (.ifCond .eq 10, 3) := dk_153 0 10 (dk_at dksX2_fault_0 1 rfl rfl)
theorem dX2_fault_4 : decode cX2_fault 4 = .ok (.aload_n 0, 1) := dk_42 (dk_at dksX2_fault_0 4 rfl rfl)
theorem dX2_fault_5 : decode cX2_fault 5 = .ok (.getfield 29, 3) := dk_180 0 29 (dk_at dksX2_fault_0 5 rfl rfl)
theorem dX2_fault_8 : decode cX2_fault 8 = .ok (.goto 7, 3) := dk_167 0 7 (dk_at dksX2_fault_0 8 rfl rfl)
theorem dX2_fault_11 : decode cX2_fault 11 = .ok (.aload_n 0, 1) := dk_42 (dk_at dksX2_fault_0 11 rfl rfl)
theorem dX2_fault_12 : decode cX2_fault 12 = .ok (.getfield 25, 3) := dk_180 0 25 (dk_at dksX2_fault_0 12 rfl rfl)
theorem dX2_fault_15 : decode cX2_fault 15 = .ok (.istore_n 2, 1) := dk_61 (dk_at dksX2_fault_0 15 rfl rfl)
theorem dX2_fault_16 : decode cX2_fault 16 = .ok (.iload_n 2, 1) := dk_28 (dk_at dksX2_fault_0 16 rfl rfl)
theorem dX2_fault_17 : decode cX2_fault 17 = .ok (.iconst (-1), 1) := dk_2 (dk_at dksX2_fault_0 17 rfl rfl)
theorem dX2_fault_18 : decode cX2_fault 18 = .ok (.if_icmp .ne 8, 3) := dk_160 0 8 (dk_at dksX2_fault_0 18 rfl rfl)
theorem dX2_fault_21 : decode cX2_fault 21 = .ok (.bipush (-3), 2) := dk_16 253 (dk_at dksX2_fault_0 21 rfl rfl)
theorem dX2_fault_23 : decode cX2_fault 23 = .ok (.goto 4, 3) := dk_167 0 4 (dk_at dksX2_fault_1 0 rfl rfl)
theorem dX2_fault_26 : decode cX2_fault 26 = .ok (.iload_n 2, 1) := dk_28 (dk_at dksX2_fault_1 3 rfl rfl)
theorem dX2_fault_27 : decode cX2_fault 27 = .ok (.ireturn, 1) := dk_172 (dk_at dksX2_fault_1 4 rfl rfl)
abbrev cX2_report : ByteArray := prog_24_method_87_code
def yX2_report : MethodName := ⟨RX2, "report", "(I)I"⟩
def dkwX2_report_9 : List UInt8 := [19, 1, 17, 182, 1, 9, 42, 180, 0, 246, 172]
abbrev dktX2_report_9 : List UInt8 := dkwX2_report_9 ++ []
def dkwX2_report_8 : List UInt8 := [182, 0, 249, 132, 2, 1, 167, 255, 159, 42, 180, 0, 44, 27, 46, 8, 122, 4, 126, 4, 160, 0, 10, 42]
abbrev dktX2_report_8 : List UInt8 := dkwX2_report_8 ++ dktX2_report_9
def dkwX2_report_7 : List UInt8 := [182, 0, 249, 29, 16, 10, 112, 158, 0, 20, 42, 16, 45, 182, 0, 249, 42, 16, 48, 29, 16, 10, 112, 96]
abbrev dktX2_report_7 : List UInt8 := dkwX2_report_7 ++ dktX2_report_8
def dkwX2_report_6 : List UInt8 := [16, 100, 108, 96, 182, 0, 249, 42, 16, 46, 182, 0, 249, 42, 16, 48, 29, 16, 10, 108, 16, 10, 112, 96]
abbrev dktX2_report_6 : List UInt8 := dkwX2_report_6 ++ dktX2_report_7
def dkwX2_report_5 : List UInt8 := [42, 42, 180, 0, 41, 27, 46, 5, 28, 96, 182, 0, 67, 62, 42, 16, 32, 182, 0, 249, 42, 16, 48, 29]
abbrev dktX2_report_5 : List UInt8 := dkwX2_report_5 ++ dktX2_report_6
def dkwX2_report_4 : List UInt8 := [182, 1, 9, 3, 61, 28, 8, 162, 0, 98, 42, 180, 0, 44, 27, 46, 28, 122, 4, 126, 4, 160, 0, 78]
abbrev dktX2_report_4 : List UInt8 := dkwX2_report_4 ++ dktX2_report_5
def dkwX2_report_3 : List UInt8 := [19, 1, 13, 182, 1, 9, 42, 16, 97, 42, 180, 0, 41, 27, 46, 96, 182, 0, 249, 42, 19, 1, 15]
abbrev dktX2_report_3 : List UInt8 := dkwX2_report_3 ++ dktX2_report_4
def dkwX2_report_2 : List UInt8 := [161, 0, 9, 42, 16, 61, 182, 0, 249, 42, 42, 180, 0, 38, 27, 46, 16, 100, 112, 182, 1, 4, 42]
abbrev dktX2_report_2 : List UInt8 := dkwX2_report_2 ++ dktX2_report_3
def dkwX2_report_1 : List UInt8 := [181, 0, 246, 42, 27, 182, 1, 4, 42, 19, 1, 7, 182, 1, 9, 42, 180, 0, 38, 27, 46, 16, 100]
abbrev dktX2_report_1 : List UInt8 := dkwX2_report_1 ++ dktX2_report_2
def dkwX2_report_0 : List UInt8 := [42, 182, 0, 158, 27, 3, 42, 180, 0, 132, 4, 100, 184, 0, 59, 154, 0, 5, 2, 172, 42, 3]
abbrev dktX2_report_0 : List UInt8 := dkwX2_report_0 ++ dktX2_report_1
theorem dksX2_report_0 : cX2_report.data.toList.drop 0 = dktX2_report_0 := by decide +kernel
theorem dksX2_report_1 : cX2_report.data.toList.drop 22 = dktX2_report_1 := dk_seg dksX2_report_0 22 rfl rfl
theorem dksX2_report_2 : cX2_report.data.toList.drop 45 = dktX2_report_2 := dk_seg dksX2_report_1 23 rfl rfl
theorem dksX2_report_3 : cX2_report.data.toList.drop 68 = dktX2_report_3 := dk_seg dksX2_report_2 23 rfl rfl
theorem dksX2_report_4 : cX2_report.data.toList.drop 91 = dktX2_report_4 := dk_seg dksX2_report_3 23 rfl rfl
theorem dksX2_report_5 : cX2_report.data.toList.drop 115 = dktX2_report_5 := dk_seg dksX2_report_4 24 rfl rfl
theorem dksX2_report_6 : cX2_report.data.toList.drop 139 = dktX2_report_6 := dk_seg dksX2_report_5 24 rfl rfl
theorem dksX2_report_7 : cX2_report.data.toList.drop 163 = dktX2_report_7 := dk_seg dksX2_report_6 24 rfl rfl
theorem dksX2_report_8 : cX2_report.data.toList.drop 187 = dktX2_report_8 := dk_seg dksX2_report_7 24 rfl rfl
theorem dksX2_report_9 : cX2_report.data.toList.drop 211 = dktX2_report_9 := dk_seg dksX2_report_8 24 rfl rfl
theorem dX2_report_0 : decode cX2_report 0 = .ok (.aload_n 0, 1) := dk_42 (dk_at dksX2_report_0 0 rfl rfl)
theorem dX2_report_1 : decode cX2_report 1 = .ok (.invokevirtual 158, 3) := dk_182 0 158 (dk_at dksX2_report_0 1 rfl rfl)
theorem dX2_report_4 : decode cX2_report 4 = .ok (.iload_n 1, 1) := dk_27 (dk_at dksX2_report_0 4 rfl rfl)
theorem dX2_report_5 : decode cX2_report 5 = .ok (.iconst 0, 1) := dk_3 (dk_at dksX2_report_0 5 rfl rfl)
theorem dX2_report_6 : decode cX2_report 6 = .ok (.aload_n 0, 1) := dk_42 (dk_at dksX2_report_0 6 rfl rfl)
theorem dX2_report_7 : decode cX2_report 7 = .ok (.getfield 132, 3) := dk_180 0 132 (dk_at dksX2_report_0 7 rfl rfl)
theorem dX2_report_10 : decode cX2_report 10 = .ok (.iconst 1, 1) := dk_4 (dk_at dksX2_report_0 10 rfl rfl)
theorem dX2_report_11 : decode cX2_report 11 = .ok (.isub, 1) := dk_100 (dk_at dksX2_report_0 11 rfl rfl)
theorem dX2_report_12 : decode cX2_report 12 = .ok (.invokestatic 59, 3) := dk_184 0 59 (dk_at dksX2_report_0 12 rfl rfl)
theorem dX2_report_15 : decode cX2_report 15 = .ok (.ifCond .ne 5, 3) := dk_154 0 5 (dk_at dksX2_report_0 15 rfl rfl)
theorem dX2_report_18 : decode cX2_report 18 = .ok (.iconst (-1), 1) := dk_2 (dk_at dksX2_report_0 18 rfl rfl)
theorem dX2_report_19 : decode cX2_report 19 = .ok (.ireturn, 1) := dk_172 (dk_at dksX2_report_0 19 rfl rfl)
theorem dX2_report_20 : decode cX2_report 20 = .ok (.aload_n 0, 1) := dk_42 (dk_at dksX2_report_0 20 rfl rfl)
theorem dX2_report_21 : decode cX2_report 21 = .ok (.iconst 0, 1) := dk_3 (dk_at dksX2_report_0 21 rfl rfl)
theorem dX2_report_22 : decode cX2_report 22 = .ok (.putfield 246, 3) := dk_181 0 246 (dk_at dksX2_report_1 0 rfl rfl)
theorem dX2_report_25 : decode cX2_report 25 = .ok (.aload_n 0, 1) := dk_42 (dk_at dksX2_report_1 3 rfl rfl)
theorem dX2_report_26 : decode cX2_report 26 = .ok (.iload_n 1, 1) := dk_27 (dk_at dksX2_report_1 4 rfl rfl)
theorem dX2_report_27 : decode cX2_report 27 = .ok (.invokevirtual 260, 3) := dk_182 1 4 (dk_at dksX2_report_1 5 rfl rfl)
theorem dX2_report_30 : decode cX2_report 30 = .ok (.aload_n 0, 1) := dk_42 (dk_at dksX2_report_1 8 rfl rfl)
theorem dX2_report_31 : decode cX2_report 31 = .ok (.ldc_w 263, 3) := dk_19 1 7 (dk_at dksX2_report_1 9 rfl rfl)
theorem dX2_report_34 : decode cX2_report 34 = .ok (.invokevirtual 265, 3) := dk_182 1 9 (dk_at dksX2_report_1 12 rfl rfl)
theorem dX2_report_37 : decode cX2_report 37 = .ok (.aload_n 0, 1) := dk_42 (dk_at dksX2_report_1 15 rfl rfl)
theorem dX2_report_38 : decode cX2_report 38 = .ok (.getfield 38, 3) := dk_180 0 38 (dk_at dksX2_report_1 16 rfl rfl)
theorem dX2_report_41 : decode cX2_report 41 = .ok (.iload_n 1, 1) := dk_27 (dk_at dksX2_report_1 19 rfl rfl)
theorem dX2_report_42 : decode cX2_report 42 = .ok (.iaload, 1) := dk_46 (dk_at dksX2_report_1 20 rfl rfl)
theorem dX2_report_43 : decode cX2_report 43 = .ok (.bipush 100, 2) := dk_16 100 (dk_at dksX2_report_1 21 rfl rfl)
theorem dX2_report_45 : decode cX2_report 45 = .ok (.if_icmp .lt 9, 3) := dk_161 0 9 (dk_at dksX2_report_2 0 rfl rfl)
theorem dX2_report_48 : decode cX2_report 48 = .ok (.aload_n 0, 1) := dk_42 (dk_at dksX2_report_2 3 rfl rfl)
theorem dX2_report_49 : decode cX2_report 49 = .ok (.bipush 61, 2) := dk_16 61 (dk_at dksX2_report_2 4 rfl rfl)
theorem dX2_report_51 : decode cX2_report 51 = .ok (.invokevirtual 249, 3) := dk_182 0 249 (dk_at dksX2_report_2 6 rfl rfl)
theorem dX2_report_54 : decode cX2_report 54 = .ok (.aload_n 0, 1) := dk_42 (dk_at dksX2_report_2 9 rfl rfl)
theorem dX2_report_55 : decode cX2_report 55 = .ok (.aload_n 0, 1) := dk_42 (dk_at dksX2_report_2 10 rfl rfl)
theorem dX2_report_56 : decode cX2_report 56 = .ok (.getfield 38, 3) := dk_180 0 38 (dk_at dksX2_report_2 11 rfl rfl)
theorem dX2_report_59 : decode cX2_report 59 = .ok (.iload_n 1, 1) := dk_27 (dk_at dksX2_report_2 14 rfl rfl)
theorem dX2_report_60 : decode cX2_report 60 = .ok (.iaload, 1) := dk_46 (dk_at dksX2_report_2 15 rfl rfl)
theorem dX2_report_61 : decode cX2_report 61 = .ok (.bipush 100, 2) := dk_16 100 (dk_at dksX2_report_2 16 rfl rfl)
theorem dX2_report_63 : decode cX2_report 63 = .ok (.irem, 1) := dk_112 (dk_at dksX2_report_2 18 rfl rfl)
theorem dX2_report_64 : decode cX2_report 64 = .ok (.invokevirtual 260, 3) := dk_182 1 4 (dk_at dksX2_report_2 19 rfl rfl)
theorem dX2_report_67 : decode cX2_report 67 = .ok (.aload_n 0, 1) := dk_42 (dk_at dksX2_report_2 22 rfl rfl)
theorem dX2_report_68 : decode cX2_report 68 = .ok (.ldc_w 269, 3) := dk_19 1 13 (dk_at dksX2_report_3 0 rfl rfl)
theorem dX2_report_71 : decode cX2_report 71 = .ok (.invokevirtual 265, 3) := dk_182 1 9 (dk_at dksX2_report_3 3 rfl rfl)
theorem dX2_report_74 : decode cX2_report 74 = .ok (.aload_n 0, 1) := dk_42 (dk_at dksX2_report_3 6 rfl rfl)
theorem dX2_report_75 : decode cX2_report 75 = .ok (.bipush 97, 2) := dk_16 97 (dk_at dksX2_report_3 7 rfl rfl)
theorem dX2_report_77 : decode cX2_report 77 = .ok (.aload_n 0, 1) := dk_42 (dk_at dksX2_report_3 9 rfl rfl)
theorem dX2_report_78 : decode cX2_report 78 = .ok (.getfield 41, 3) := dk_180 0 41 (dk_at dksX2_report_3 10 rfl rfl)
theorem dX2_report_81 : decode cX2_report 81 = .ok (.iload_n 1, 1) := dk_27 (dk_at dksX2_report_3 13 rfl rfl)
theorem dX2_report_82 : decode cX2_report 82 = .ok (.iaload, 1) := dk_46 (dk_at dksX2_report_3 14 rfl rfl)
theorem dX2_report_83 : decode cX2_report 83 = .ok (.iadd, 1) := dk_96 (dk_at dksX2_report_3 15 rfl rfl)
theorem dX2_report_84 : decode cX2_report 84 = .ok (.invokevirtual 249, 3) := dk_182 0 249 (dk_at dksX2_report_3 16 rfl rfl)
theorem dX2_report_87 : decode cX2_report 87 = .ok (.aload_n 0, 1) := dk_42 (dk_at dksX2_report_3 19 rfl rfl)
theorem dX2_report_88 : decode cX2_report 88 = .ok (.ldc_w 271, 3) := dk_19 1 15 (dk_at dksX2_report_3 20 rfl rfl)
theorem dX2_report_91 : decode cX2_report 91 = .ok (.invokevirtual 265, 3) := dk_182 1 9 (dk_at dksX2_report_4 0 rfl rfl)
theorem dX2_report_94 : decode cX2_report 94 = .ok (.iconst 0, 1) := dk_3 (dk_at dksX2_report_4 3 rfl rfl)
theorem dX2_report_95 : decode cX2_report 95 = .ok (.istore_n 2, 1) := dk_61 (dk_at dksX2_report_4 4 rfl rfl)
theorem dX2_report_96 : decode cX2_report 96 = .ok (.iload_n 2, 1) := dk_28 (dk_at dksX2_report_4 5 rfl rfl)
theorem dX2_report_97 : decode cX2_report 97 = .ok (.iconst 5, 1) := dk_8 (dk_at dksX2_report_4 6 rfl rfl)
theorem dX2_report_98 : decode cX2_report 98 = .ok (.if_icmp .ge 98, 3) := dk_162 0 98 (dk_at dksX2_report_4 7 rfl rfl)
theorem dX2_report_101 : decode cX2_report 101 = .ok (.aload_n 0, 1) := dk_42 (dk_at dksX2_report_4 10 rfl rfl)
theorem dX2_report_102 : decode cX2_report 102 = .ok (.getfield 44, 3) := dk_180 0 44 (dk_at dksX2_report_4 11 rfl rfl)
theorem dX2_report_105 : decode cX2_report 105 = .ok (.iload_n 1, 1) := dk_27 (dk_at dksX2_report_4 14 rfl rfl)
theorem dX2_report_106 : decode cX2_report 106 = .ok (.iaload, 1) := dk_46 (dk_at dksX2_report_4 15 rfl rfl)
theorem dX2_report_107 : decode cX2_report 107 = .ok (.iload_n 2, 1) := dk_28 (dk_at dksX2_report_4 16 rfl rfl)
theorem dX2_report_108 : decode cX2_report 108 = .ok (.ishr, 1) := dk_122 (dk_at dksX2_report_4 17 rfl rfl)
theorem dX2_report_109 : decode cX2_report 109 = .ok (.iconst 1, 1) := dk_4 (dk_at dksX2_report_4 18 rfl rfl)
theorem dX2_report_110 : decode cX2_report 110 = .ok (.iand, 1) := dk_126 (dk_at dksX2_report_4 19 rfl rfl)
theorem dX2_report_111 : decode cX2_report 111 = .ok (.iconst 1, 1) := dk_4 (dk_at dksX2_report_4 20 rfl rfl)
theorem dX2_report_112 : decode cX2_report 112 = .ok (.if_icmp .ne 78, 3) := dk_160 0 78 (dk_at dksX2_report_4 21 rfl rfl)
theorem dX2_report_115 : decode cX2_report 115 = .ok (.aload_n 0, 1) := dk_42 (dk_at dksX2_report_5 0 rfl rfl)
theorem dX2_report_116 : decode cX2_report 116 = .ok (.aload_n 0, 1) := dk_42 (dk_at dksX2_report_5 1 rfl rfl)
theorem dX2_report_117 : decode cX2_report 117 = .ok (.getfield 41, 3) := dk_180 0 41 (dk_at dksX2_report_5 2 rfl rfl)
theorem dX2_report_120 : decode cX2_report 120 = .ok (.iload_n 1, 1) := dk_27 (dk_at dksX2_report_5 5 rfl rfl)
theorem dX2_report_121 : decode cX2_report 121 = .ok (.iaload, 1) := dk_46 (dk_at dksX2_report_5 6 rfl rfl)
theorem dX2_report_122 : decode cX2_report 122 = .ok (.iconst 2, 1) := dk_5 (dk_at dksX2_report_5 7 rfl rfl)
theorem dX2_report_123 : decode cX2_report 123 = .ok (.iload_n 2, 1) := dk_28 (dk_at dksX2_report_5 8 rfl rfl)
theorem dX2_report_124 : decode cX2_report 124 = .ok (.iadd, 1) := dk_96 (dk_at dksX2_report_5 9 rfl rfl)
theorem dX2_report_125 : decode cX2_report 125 = .ok (.invokevirtual 67, 3) := dk_182 0 67 (dk_at dksX2_report_5 10 rfl rfl)
theorem dX2_report_128 : decode cX2_report 128 = .ok (.istore_n 3, 1) := dk_62 (dk_at dksX2_report_5 13 rfl rfl)
theorem dX2_report_129 : decode cX2_report 129 = .ok (.aload_n 0, 1) := dk_42 (dk_at dksX2_report_5 14 rfl rfl)
theorem dX2_report_130 : decode cX2_report 130 = .ok (.bipush 32, 2) := dk_16 32 (dk_at dksX2_report_5 15 rfl rfl)
theorem dX2_report_132 : decode cX2_report 132 = .ok (.invokevirtual 249, 3) := dk_182 0 249 (dk_at dksX2_report_5 17 rfl rfl)
theorem dX2_report_135 : decode cX2_report 135 = .ok (.aload_n 0, 1) := dk_42 (dk_at dksX2_report_5 20 rfl rfl)
theorem dX2_report_136 : decode cX2_report 136 = .ok (.bipush 48, 2) := dk_16 48 (dk_at dksX2_report_5 21 rfl rfl)
theorem dX2_report_138 : decode cX2_report 138 = .ok (.iload_n 3, 1) := dk_29 (dk_at dksX2_report_5 23 rfl rfl)
theorem dX2_report_139 : decode cX2_report 139 = .ok (.bipush 100, 2) := dk_16 100 (dk_at dksX2_report_6 0 rfl rfl)
theorem dX2_report_141 : decode cX2_report 141 = .ok (.idiv, 1) := dk_108 (dk_at dksX2_report_6 2 rfl rfl)
theorem dX2_report_142 : decode cX2_report 142 = .ok (.iadd, 1) := dk_96 (dk_at dksX2_report_6 3 rfl rfl)
theorem dX2_report_143 : decode cX2_report 143 = .ok (.invokevirtual 249, 3) := dk_182 0 249 (dk_at dksX2_report_6 4 rfl rfl)
theorem dX2_report_146 : decode cX2_report 146 = .ok (.aload_n 0, 1) := dk_42 (dk_at dksX2_report_6 7 rfl rfl)
theorem dX2_report_147 : decode cX2_report 147 = .ok (.bipush 46, 2) := dk_16 46 (dk_at dksX2_report_6 8 rfl rfl)
theorem dX2_report_149 : decode cX2_report 149 = .ok (.invokevirtual 249, 3) := dk_182 0 249 (dk_at dksX2_report_6 10 rfl rfl)
theorem dX2_report_152 : decode cX2_report 152 = .ok (.aload_n 0, 1) := dk_42 (dk_at dksX2_report_6 13 rfl rfl)
theorem dX2_report_153 : decode cX2_report 153 = .ok (.bipush 48, 2) := dk_16 48 (dk_at dksX2_report_6 14 rfl rfl)
theorem dX2_report_155 : decode cX2_report 155 = .ok (.iload_n 3, 1) := dk_29 (dk_at dksX2_report_6 16 rfl rfl)
theorem dX2_report_156 : decode cX2_report 156 = .ok (.bipush 10, 2) := dk_16 10 (dk_at dksX2_report_6 17 rfl rfl)
theorem dX2_report_158 : decode cX2_report 158 = .ok (.idiv, 1) := dk_108 (dk_at dksX2_report_6 19 rfl rfl)
theorem dX2_report_159 : decode cX2_report 159 = .ok (.bipush 10, 2) := dk_16 10 (dk_at dksX2_report_6 20 rfl rfl)
theorem dX2_report_161 : decode cX2_report 161 = .ok (.irem, 1) := dk_112 (dk_at dksX2_report_6 22 rfl rfl)
theorem dX2_report_162 : decode cX2_report 162 = .ok (.iadd, 1) := dk_96 (dk_at dksX2_report_6 23 rfl rfl)
theorem dX2_report_163 : decode cX2_report 163 = .ok (.invokevirtual 249, 3) := dk_182 0 249 (dk_at dksX2_report_7 0 rfl rfl)
theorem dX2_report_166 : decode cX2_report 166 = .ok (.iload_n 3, 1) := dk_29 (dk_at dksX2_report_7 3 rfl rfl)
theorem dX2_report_167 : decode cX2_report 167 = .ok (.bipush 10, 2) := dk_16 10 (dk_at dksX2_report_7 4 rfl rfl)
theorem dX2_report_169 : decode cX2_report 169 = .ok (.irem, 1) := dk_112 (dk_at dksX2_report_7 6 rfl rfl)
theorem dX2_report_170 : decode cX2_report 170 = .ok (.ifCond .le 20, 3) := dk_158 0 20 (dk_at dksX2_report_7 7 rfl rfl)
theorem dX2_report_173 : decode cX2_report 173 = .ok (.aload_n 0, 1) := dk_42 (dk_at dksX2_report_7 10 rfl rfl)
theorem dX2_report_174 : decode cX2_report 174 = .ok (.bipush 45, 2) := dk_16 45 (dk_at dksX2_report_7 11 rfl rfl)
theorem dX2_report_176 : decode cX2_report 176 = .ok (.invokevirtual 249, 3) := dk_182 0 249 (dk_at dksX2_report_7 13 rfl rfl)
theorem dX2_report_179 : decode cX2_report 179 = .ok (.aload_n 0, 1) := dk_42 (dk_at dksX2_report_7 16 rfl rfl)
theorem dX2_report_180 : decode cX2_report 180 = .ok (.bipush 48, 2) := dk_16 48 (dk_at dksX2_report_7 17 rfl rfl)
theorem dX2_report_182 : decode cX2_report 182 = .ok (.iload_n 3, 1) := dk_29 (dk_at dksX2_report_7 19 rfl rfl)
theorem dX2_report_183 : decode cX2_report 183 = .ok (.bipush 10, 2) := dk_16 10 (dk_at dksX2_report_7 20 rfl rfl)
theorem dX2_report_185 : decode cX2_report 185 = .ok (.irem, 1) := dk_112 (dk_at dksX2_report_7 22 rfl rfl)
theorem dX2_report_186 : decode cX2_report 186 = .ok (.iadd, 1) := dk_96 (dk_at dksX2_report_7 23 rfl rfl)
theorem dX2_report_187 : decode cX2_report 187 = .ok (.invokevirtual 249, 3) := dk_182 0 249 (dk_at dksX2_report_8 0 rfl rfl)
theorem dX2_report_190 : decode cX2_report 190 = .ok (.iinc 2 1, 3) := dk_132 2 1 (dk_at dksX2_report_8 3 rfl rfl)
theorem dX2_report_193 : decode cX2_report 193 = .ok (.goto (-97), 3) := dk_167 255 159 (dk_at dksX2_report_8 6 rfl rfl)
theorem dX2_report_196 : decode cX2_report 196 = .ok (.aload_n 0, 1) := dk_42 (dk_at dksX2_report_8 9 rfl rfl)
theorem dX2_report_197 : decode cX2_report 197 = .ok (.getfield 44, 3) := dk_180 0 44 (dk_at dksX2_report_8 10 rfl rfl)
theorem dX2_report_200 : decode cX2_report 200 = .ok (.iload_n 1, 1) := dk_27 (dk_at dksX2_report_8 13 rfl rfl)
theorem dX2_report_201 : decode cX2_report 201 = .ok (.iaload, 1) := dk_46 (dk_at dksX2_report_8 14 rfl rfl)
theorem dX2_report_202 : decode cX2_report 202 = .ok (.iconst 5, 1) := dk_8 (dk_at dksX2_report_8 15 rfl rfl)
theorem dX2_report_203 : decode cX2_report 203 = .ok (.ishr, 1) := dk_122 (dk_at dksX2_report_8 16 rfl rfl)
theorem dX2_report_204 : decode cX2_report 204 = .ok (.iconst 1, 1) := dk_4 (dk_at dksX2_report_8 17 rfl rfl)
theorem dX2_report_205 : decode cX2_report 205 = .ok (.iand, 1) := dk_126 (dk_at dksX2_report_8 18 rfl rfl)
theorem dX2_report_206 : decode cX2_report 206 = .ok (.iconst 1, 1) := dk_4 (dk_at dksX2_report_8 19 rfl rfl)
theorem dX2_report_207 : decode cX2_report 207 = .ok (.if_icmp .ne 10, 3) := dk_160 0 10 (dk_at dksX2_report_8 20 rfl rfl)
theorem dX2_report_210 : decode cX2_report 210 = .ok (.aload_n 0, 1) := dk_42 (dk_at dksX2_report_8 23 rfl rfl)
theorem dX2_report_211 : decode cX2_report 211 = .ok (.ldc_w 273, 3) := dk_19 1 17 (dk_at dksX2_report_9 0 rfl rfl)
theorem dX2_report_214 : decode cX2_report 214 = .ok (.invokevirtual 265, 3) := dk_182 1 9 (dk_at dksX2_report_9 3 rfl rfl)
theorem dX2_report_217 : decode cX2_report 217 = .ok (.aload_n 0, 1) := dk_42 (dk_at dksX2_report_9 6 rfl rfl)
theorem dX2_report_218 : decode cX2_report 218 = .ok (.getfield 246, 3) := dk_180 0 246 (dk_at dksX2_report_9 7 rfl rfl)
theorem dX2_report_221 : decode cX2_report 221 = .ok (.ireturn, 1) := dk_172 (dk_at dksX2_report_9 10 rfl rfl)
abbrev cX2_writesNumber : ByteArray := prog_24_method_85_code
def yX2_writesNumber : MethodName := ⟨RX2, "writesNumber", "(I)V"⟩
def dkwX2_writesNumber_1 : List UInt8 := [96, 182, 0, 249, 177]
abbrev dktX2_writesNumber_1 : List UInt8 := dkwX2_writesNumber_1 ++ []
def dkwX2_writesNumber_0 : List UInt8 := [27, 16, 10, 161, 0, 14, 42, 16, 48, 27, 16, 10, 108, 96, 182, 0, 249, 42, 16, 48, 27, 16, 10, 112]
abbrev dktX2_writesNumber_0 : List UInt8 := dkwX2_writesNumber_0 ++ dktX2_writesNumber_1
theorem dksX2_writesNumber_0 : cX2_writesNumber.data.toList.drop 0 = dktX2_writesNumber_0 := by decide +kernel
theorem dksX2_writesNumber_1 : cX2_writesNumber.data.toList.drop 24 = dktX2_writesNumber_1 := dk_seg dksX2_writesNumber_0 24 rfl rfl
theorem dX2_writesNumber_0 : decode cX2_writesNumber 0 = .ok (.iload_n 1, 1) := dk_27 (dk_at dksX2_writesNumber_0 0 rfl rfl)
theorem dX2_writesNumber_1 : decode cX2_writesNumber 1 = .ok (.bipush 10, 2) := dk_16 10 (dk_at dksX2_writesNumber_0 1 rfl rfl)
theorem dX2_writesNumber_3 : decode cX2_writesNumber 3 = .ok (.if_icmp .lt 14, 3) := dk_161 0 14 (dk_at dksX2_writesNumber_0 3 rfl rfl)
theorem dX2_writesNumber_6 : decode cX2_writesNumber 6 = .ok (.aload_n 0, 1) := dk_42 (dk_at dksX2_writesNumber_0 6 rfl rfl)
theorem dX2_writesNumber_7 : decode cX2_writesNumber 7 = .ok (.bipush 48, 2) := dk_16 48 (dk_at dksX2_writesNumber_0 7 rfl rfl)
theorem dX2_writesNumber_9 : decode cX2_writesNumber 9 = .ok (.iload_n 1, 1) := dk_27 (dk_at dksX2_writesNumber_0 9 rfl rfl)
theorem dX2_writesNumber_10 : decode cX2_writesNumber 10 = .ok (.bipush 10, 2) := dk_16 10 (dk_at dksX2_writesNumber_0 10 rfl rfl)
theorem dX2_writesNumber_12 : decode cX2_writesNumber 12 = .ok (.idiv, 1) := dk_108 (dk_at dksX2_writesNumber_0 12 rfl rfl)
theorem dX2_writesNumber_13 : decode cX2_writesNumber 13 = .ok (.iadd, 1) := dk_96 (dk_at dksX2_writesNumber_0 13 rfl rfl)
theorem dX2_writesNumber_14 : decode cX2_writesNumber 14 = .ok (.invokevirtual 249, 3) := dk_182 0 249 (dk_at dksX2_writesNumber_0 14 rfl rfl)
theorem dX2_writesNumber_17 : decode cX2_writesNumber 17 = .ok (.aload_n 0, 1) := dk_42 (dk_at dksX2_writesNumber_0 17 rfl rfl)
theorem dX2_writesNumber_18 : decode cX2_writesNumber 18 = .ok (.bipush 48, 2) := dk_16 48 (dk_at dksX2_writesNumber_0 18 rfl rfl)
theorem dX2_writesNumber_20 : decode cX2_writesNumber 20 = .ok (.iload_n 1, 1) := dk_27 (dk_at dksX2_writesNumber_0 20 rfl rfl)
theorem dX2_writesNumber_21 : decode cX2_writesNumber 21 = .ok (.bipush 10, 2) := dk_16 10 (dk_at dksX2_writesNumber_0 21 rfl rfl)
theorem dX2_writesNumber_23 : decode cX2_writesNumber 23 = .ok (.irem, 1) := dk_112 (dk_at dksX2_writesNumber_0 23 rfl rfl)
theorem dX2_writesNumber_24 : decode cX2_writesNumber 24 = .ok (.iadd, 1) := dk_96 (dk_at dksX2_writesNumber_1 0 rfl rfl)
theorem dX2_writesNumber_25 : decode cX2_writesNumber 25 = .ok (.invokevirtual 249, 3) := dk_182 0 249 (dk_at dksX2_writesNumber_1 1 rfl rfl)
theorem dX2_writesNumber_28 : decode cX2_writesNumber 28 = .ok (.return_, 1) := dk_177 (dk_at dksX2_writesNumber_1 4 rfl rfl)
abbrev cX2_writes : ByteArray := prog_24_method_84_code
def yX2_writes : MethodName := ⟨RX2, "writes", "(I)V"⟩
def dkwX2_writes_0 : List UInt8 := [42, 180, 0, 32, 42, 180, 0, 246, 27, 79, 42, 89, 180, 0, 246, 4, 96, 181, 0, 246, 177]
abbrev dktX2_writes_0 : List UInt8 := dkwX2_writes_0 ++ []
theorem dksX2_writes_0 : cX2_writes.data.toList.drop 0 = dktX2_writes_0 := by decide +kernel
theorem dX2_writes_0 : decode cX2_writes 0 = .ok (.aload_n 0, 1) := dk_42 (dk_at dksX2_writes_0 0 rfl rfl)
theorem dX2_writes_1 : decode cX2_writes 1 = .ok (.getfield 32, 3) := dk_180 0 32 (dk_at dksX2_writes_0 1 rfl rfl)
theorem dX2_writes_4 : decode cX2_writes 4 = .ok (.aload_n 0, 1) := dk_42 (dk_at dksX2_writes_0 4 rfl rfl)
theorem dX2_writes_5 : decode cX2_writes 5 = .ok (.getfield 246, 3) := dk_180 0 246 (dk_at dksX2_writes_0 5 rfl rfl)
theorem dX2_writes_8 : decode cX2_writes 8 = .ok (.iload_n 1, 1) := dk_27 (dk_at dksX2_writes_0 8 rfl rfl)
theorem dX2_writes_9 : decode cX2_writes 9 = .ok (.iastore, 1) := dk_79 (dk_at dksX2_writes_0 9 rfl rfl)
theorem dX2_writes_10 : decode cX2_writes 10 = .ok (.aload_n 0, 1) := dk_42 (dk_at dksX2_writes_0 10 rfl rfl)
theorem dX2_writes_11 : decode cX2_writes 11 = .ok (.dup, 1) := dk_89 (dk_at dksX2_writes_0 11 rfl rfl)
theorem dX2_writes_12 : decode cX2_writes 12 = .ok (.getfield 246, 3) := dk_180 0 246 (dk_at dksX2_writes_0 12 rfl rfl)
theorem dX2_writes_15 : decode cX2_writes 15 = .ok (.iconst 1, 1) := dk_4 (dk_at dksX2_writes_0 15 rfl rfl)
theorem dX2_writes_16 : decode cX2_writes 16 = .ok (.iadd, 1) := dk_96 (dk_at dksX2_writes_0 16 rfl rfl)
theorem dX2_writes_17 : decode cX2_writes 17 = .ok (.putfield 246, 3) := dk_181 0 246 (dk_at dksX2_writes_0 17 rfl rfl)
theorem dX2_writes_20 : decode cX2_writes 20 = .ok (.return_, 1) := dk_177 (dk_at dksX2_writes_0 20 rfl rfl)
abbrev cX2_writesWord : ByteArray := prog_24_method_86_code
def yX2_writesWord : MethodName := ⟨RX2, "writesWord", "(Ljava/lang/String;)V"⟩
def dkwX2_writesWord_1 : List UInt8 := [167, 255, 236, 177]
abbrev dktX2_writesWord_1 : List UInt8 := dkwX2_writesWord_1 ++ []
def dkwX2_writesWord_0 : List UInt8 := [3, 61, 28, 43, 182, 0, 252, 162, 0, 18, 42, 43, 28, 182, 1, 0, 182, 0, 249, 132, 2, 1]
abbrev dktX2_writesWord_0 : List UInt8 := dkwX2_writesWord_0 ++ dktX2_writesWord_1
theorem dksX2_writesWord_0 : cX2_writesWord.data.toList.drop 0 = dktX2_writesWord_0 := by decide +kernel
theorem dksX2_writesWord_1 : cX2_writesWord.data.toList.drop 22 = dktX2_writesWord_1 := dk_seg dksX2_writesWord_0 22 rfl rfl
theorem dX2_writesWord_0 : decode cX2_writesWord 0 = .ok (.iconst 0, 1) := dk_3 (dk_at dksX2_writesWord_0 0 rfl rfl)
theorem dX2_writesWord_1 : decode cX2_writesWord 1 = .ok (.istore_n 2, 1) := dk_61 (dk_at dksX2_writesWord_0 1 rfl rfl)
theorem dX2_writesWord_2 : decode cX2_writesWord 2 = .ok (.iload_n 2, 1) := dk_28 (dk_at dksX2_writesWord_0 2 rfl rfl)
theorem dX2_writesWord_3 : decode cX2_writesWord 3 = .ok (.aload_n 1, 1) := dk_43 (dk_at dksX2_writesWord_0 3 rfl rfl)
theorem dX2_writesWord_4 : decode cX2_writesWord 4 = .ok (.invokevirtual 252, 3) := dk_182 0 252 (dk_at dksX2_writesWord_0 4 rfl rfl)
theorem dX2_writesWord_7 : decode cX2_writesWord 7 = .ok (.if_icmp .ge 18, 3) := dk_162 0 18 (dk_at dksX2_writesWord_0 7 rfl rfl)
theorem dX2_writesWord_10 : decode cX2_writesWord 10 = .ok (.aload_n 0, 1) := dk_42 (dk_at dksX2_writesWord_0 10 rfl rfl)
theorem dX2_writesWord_11 : decode cX2_writesWord 11 = .ok (.aload_n 1, 1) := dk_43 (dk_at dksX2_writesWord_0 11 rfl rfl)
theorem dX2_writesWord_12 : decode cX2_writesWord 12 = .ok (.iload_n 2, 1) := dk_28 (dk_at dksX2_writesWord_0 12 rfl rfl)
theorem dX2_writesWord_13 : decode cX2_writesWord 13 = .ok (.invokevirtual 256, 3) := dk_182 1 0 (dk_at dksX2_writesWord_0 13 rfl rfl)
theorem dX2_writesWord_16 : decode cX2_writesWord 16 = .ok (.invokevirtual 249, 3) := dk_182 0 249 (dk_at dksX2_writesWord_0 16 rfl rfl)
theorem dX2_writesWord_19 : decode cX2_writesWord 19 = .ok (.iinc 2 1, 3) := dk_132 2 1 (dk_at dksX2_writesWord_0 19 rfl rfl)
theorem dX2_writesWord_22 : decode cX2_writesWord 22 = .ok (.goto (-20), 3) := dk_167 255 236 (dk_at dksX2_writesWord_1 0 rfl rfl)
theorem dX2_writesWord_25 : decode cX2_writesWord 25 = .ok (.return_, 1) := dk_177 (dk_at dksX2_writesWord_1 3 rfl rfl)
abbrev cX2_character : ByteArray := prog_24_method_88_code
def yX2_character : MethodName := ⟨RX2, "character", "(I)I"⟩
def dkwX2_character_1 : List UInt8 := [172]
abbrev dktX2_character_1 : List UInt8 := dkwX2_character_1 ++ []
def dkwX2_character_0 : List UInt8 := [27, 3, 42, 180, 0, 246, 4, 100, 184, 0, 59, 153, 0, 12, 42, 180, 0, 32, 27, 46, 167, 0, 4, 2]
abbrev dktX2_character_0 : List UInt8 := dkwX2_character_0 ++ dktX2_character_1
theorem dksX2_character_0 : cX2_character.data.toList.drop 0 = dktX2_character_0 := by decide +kernel
theorem dksX2_character_1 : cX2_character.data.toList.drop 24 = dktX2_character_1 := dk_seg dksX2_character_0 24 rfl rfl
theorem dX2_character_0 : decode cX2_character 0 = .ok (.iload_n 1, 1) := dk_27 (dk_at dksX2_character_0 0 rfl rfl)
theorem dX2_character_1 : decode cX2_character 1 = .ok (.iconst 0, 1) := dk_3 (dk_at dksX2_character_0 1 rfl rfl)
theorem dX2_character_2 : decode cX2_character 2 = .ok (.aload_n 0, 1) := dk_42 (dk_at dksX2_character_0 2 rfl rfl)
theorem dX2_character_3 : decode cX2_character 3 = .ok (.getfield 246, 3) := dk_180 0 246 (dk_at dksX2_character_0 3 rfl rfl)
theorem dX2_character_6 : decode cX2_character 6 = .ok (.iconst 1, 1) := dk_4 (dk_at dksX2_character_0 6 rfl rfl)
theorem dX2_character_7 : decode cX2_character 7 = .ok (.isub, 1) := dk_100 (dk_at dksX2_character_0 7 rfl rfl)
theorem dX2_character_8 : decode cX2_character 8 = .ok (.invokestatic 59, 3) := dk_184 0 59 (dk_at dksX2_character_0 8 rfl rfl)
theorem dX2_character_11 : decode cX2_character 11 = .ok (.ifCond .eq 12, 3) := dk_153 0 12 (dk_at dksX2_character_0 11 rfl rfl)
theorem dX2_character_14 : decode cX2_character 14 = .ok (.aload_n 0, 1) := dk_42 (dk_at dksX2_character_0 14 rfl rfl)
theorem dX2_character_15 : decode cX2_character 15 = .ok (.getfield 32, 3) := dk_180 0 32 (dk_at dksX2_character_0 15 rfl rfl)
theorem dX2_character_18 : decode cX2_character 18 = .ok (.iload_n 1, 1) := dk_27 (dk_at dksX2_character_0 18 rfl rfl)
theorem dX2_character_19 : decode cX2_character 19 = .ok (.iaload, 1) := dk_46 (dk_at dksX2_character_0 19 rfl rfl)
theorem dX2_character_20 : decode cX2_character 20 = .ok (.goto 4, 3) := dk_167 0 4 (dk_at dksX2_character_0 20 rfl rfl)
theorem dX2_character_23 : decode cX2_character 23 = .ok (.iconst (-1), 1) := dk_2 (dk_at dksX2_character_0 23 rfl rfl)
theorem dX2_character_24 : decode cX2_character 24 = .ok (.ireturn, 1) := dk_172 (dk_at dksX2_character_1 0 rfl rfl)
abbrev cX2_account : ByteArray := prog_24_method_91_code
def yX2_account : MethodName := ⟨RX2, "account", "(I)I"⟩
def dkwX2_account_4 : List UInt8 := [184, 1, 19, 172, 42, 4, 182, 1, 23, 172, 42, 180, 0, 71, 172, 42, 180, 0, 207, 172, 2, 172]
abbrev dktX2_account_4 : List UInt8 := dkwX2_account_4 ++ []
def dkwX2_account_3 : List UInt8 := [172, 42, 180, 0, 7, 5, 46, 172, 42, 180, 0, 132, 172, 42, 5, 182, 1, 23, 172, 42, 182, 0, 167]
abbrev dktX2_account_3 : List UInt8 := dkwX2_account_3 ++ dktX2_account_4
def dkwX2_account_2 : List UInt8 := [42, 180, 0, 7, 3, 46, 172, 42, 3, 182, 1, 23, 172, 42, 180, 0, 7, 4, 46, 172, 42, 182, 1, 26]
abbrev dktX2_account_2 : List UInt8 := dkwX2_account_2 ++ dktX2_account_3
def dkwX2_account_1 : List UInt8 := [170, 0, 0, 0, 0, 0, 126, 0, 0, 0, 0, 0, 0, 0, 10, 0, 0, 0, 59, 0, 0, 0, 66, 0, 0, 0, 72, 0, 0, 0, 79, 0, 0, 0, 84, 0, 0, 0, 91, 0, 0, 0, 96, 0, 0, 0, 102, 0, 0, 0, 110, 0, 0, 0, 116, 0, 0, 0, 121]
abbrev dktX2_account_1 : List UInt8 := dkwX2_account_1 ++ dktX2_account_2
def dkwX2_account_0 : List UInt8 := [42, 182, 0, 158, 27]
abbrev dktX2_account_0 : List UInt8 := dkwX2_account_0 ++ dktX2_account_1
theorem dksX2_account_0 : cX2_account.data.toList.drop 0 = dktX2_account_0 := by decide +kernel
theorem dksX2_account_1 : cX2_account.data.toList.drop 5 = dktX2_account_1 := dk_seg dksX2_account_0 5 rfl rfl
theorem dksX2_account_2 : cX2_account.data.toList.drop 64 = dktX2_account_2 := dk_seg dksX2_account_1 59 rfl rfl
theorem dksX2_account_3 : cX2_account.data.toList.drop 88 = dktX2_account_3 := dk_seg dksX2_account_2 24 rfl rfl
theorem dksX2_account_4 : cX2_account.data.toList.drop 111 = dktX2_account_4 := dk_seg dksX2_account_3 23 rfl rfl
theorem dX2_account_0 : decode cX2_account 0 = .ok (.aload_n 0, 1) := dk_42 (dk_at dksX2_account_0 0 rfl rfl)
theorem dX2_account_1 : decode cX2_account 1 = .ok (.invokevirtual 158, 3) := dk_182 0 158 (dk_at dksX2_account_0 1 rfl rfl)
theorem dX2_account_4 : decode cX2_account 4 = .ok (.iload_n 1, 1) := dk_27 (dk_at dksX2_account_0 4 rfl rfl)
theorem dX2_account_5 : decode cX2_account 5 = .ok (.tableswitch 126 0 10 #[59, 66, 72, 79, 84, 91, 96, 102, 110, 116, 121], 59) := by decide +kernel
theorem dX2_account_64 : decode cX2_account 64 = .ok (.aload_n 0, 1) := dk_42 (dk_at dksX2_account_2 0 rfl rfl)
theorem dX2_account_65 : decode cX2_account 65 = .ok (.getfield 7, 3) := dk_180 0 7 (dk_at dksX2_account_2 1 rfl rfl)
theorem dX2_account_68 : decode cX2_account 68 = .ok (.iconst 0, 1) := dk_3 (dk_at dksX2_account_2 4 rfl rfl)
theorem dX2_account_69 : decode cX2_account 69 = .ok (.iaload, 1) := dk_46 (dk_at dksX2_account_2 5 rfl rfl)
theorem dX2_account_70 : decode cX2_account 70 = .ok (.ireturn, 1) := dk_172 (dk_at dksX2_account_2 6 rfl rfl)
theorem dX2_account_71 : decode cX2_account 71 = .ok (.aload_n 0, 1) := dk_42 (dk_at dksX2_account_2 7 rfl rfl)
theorem dX2_account_72 : decode cX2_account 72 = .ok (.iconst 0, 1) := dk_3 (dk_at dksX2_account_2 8 rfl rfl)
theorem dX2_account_73 : decode cX2_account 73 = .ok (.invokevirtual 279, 3) := dk_182 1 23 (dk_at dksX2_account_2 9 rfl rfl)
theorem dX2_account_76 : decode cX2_account 76 = .ok (.ireturn, 1) := dk_172 (dk_at dksX2_account_2 12 rfl rfl)
theorem dX2_account_77 : decode cX2_account 77 = .ok (.aload_n 0, 1) := dk_42 (dk_at dksX2_account_2 13 rfl rfl)
theorem dX2_account_78 : decode cX2_account 78 = .ok (.getfield 7, 3) := dk_180 0 7 (dk_at dksX2_account_2 14 rfl rfl)
theorem dX2_account_81 : decode cX2_account 81 = .ok (.iconst 1, 1) := dk_4 (dk_at dksX2_account_2 17 rfl rfl)
theorem dX2_account_82 : decode cX2_account 82 = .ok (.iaload, 1) := dk_46 (dk_at dksX2_account_2 18 rfl rfl)
theorem dX2_account_83 : decode cX2_account 83 = .ok (.ireturn, 1) := dk_172 (dk_at dksX2_account_2 19 rfl rfl)
theorem dX2_account_84 : decode cX2_account 84 = .ok (.aload_n 0, 1) := dk_42 (dk_at dksX2_account_2 20 rfl rfl)
theorem dX2_account_85 : decode cX2_account 85 = .ok (.invokevirtual 282, 3) := dk_182 1 26 (dk_at dksX2_account_2 21 rfl rfl)
theorem dX2_account_88 : decode cX2_account 88 = .ok (.ireturn, 1) := dk_172 (dk_at dksX2_account_3 0 rfl rfl)
theorem dX2_account_89 : decode cX2_account 89 = .ok (.aload_n 0, 1) := dk_42 (dk_at dksX2_account_3 1 rfl rfl)
theorem dX2_account_90 : decode cX2_account 90 = .ok (.getfield 7, 3) := dk_180 0 7 (dk_at dksX2_account_3 2 rfl rfl)
theorem dX2_account_93 : decode cX2_account 93 = .ok (.iconst 2, 1) := dk_5 (dk_at dksX2_account_3 5 rfl rfl)
theorem dX2_account_94 : decode cX2_account 94 = .ok (.iaload, 1) := dk_46 (dk_at dksX2_account_3 6 rfl rfl)
theorem dX2_account_95 : decode cX2_account 95 = .ok (.ireturn, 1) := dk_172 (dk_at dksX2_account_3 7 rfl rfl)
theorem dX2_account_96 : decode cX2_account 96 = .ok (.aload_n 0, 1) := dk_42 (dk_at dksX2_account_3 8 rfl rfl)
theorem dX2_account_97 : decode cX2_account 97 = .ok (.getfield 132, 3) := dk_180 0 132 (dk_at dksX2_account_3 9 rfl rfl)
theorem dX2_account_100 : decode cX2_account 100 = .ok (.ireturn, 1) := dk_172 (dk_at dksX2_account_3 12 rfl rfl)
theorem dX2_account_101 : decode cX2_account 101 = .ok (.aload_n 0, 1) := dk_42 (dk_at dksX2_account_3 13 rfl rfl)
theorem dX2_account_102 : decode cX2_account 102 = .ok (.iconst 2, 1) := dk_5 (dk_at dksX2_account_3 14 rfl rfl)
theorem dX2_account_103 : decode cX2_account 103 = .ok (.invokevirtual 279, 3) := dk_182 1 23 (dk_at dksX2_account_3 15 rfl rfl)
theorem dX2_account_106 : decode cX2_account 106 = .ok (.ireturn, 1) := dk_172 (dk_at dksX2_account_3 18 rfl rfl)
theorem dX2_account_107 : decode cX2_account 107 = .ok (.aload_n 0, 1) := dk_42 (dk_at dksX2_account_3 19 rfl rfl)
theorem dX2_account_108 : decode cX2_account 108 = .ok (.invokevirtual 167, 3) := dk_182 0 167 (dk_at dksX2_account_3 20 rfl rfl)
theorem dX2_account_111 : decode cX2_account 111 = .ok (.invokestatic 275, 3) := dk_184 1 19 (dk_at dksX2_account_4 0 rfl rfl)
theorem dX2_account_114 : decode cX2_account 114 = .ok (.ireturn, 1) := dk_172 (dk_at dksX2_account_4 3 rfl rfl)
theorem dX2_account_115 : decode cX2_account 115 = .ok (.aload_n 0, 1) := dk_42 (dk_at dksX2_account_4 4 rfl rfl)
theorem dX2_account_116 : decode cX2_account 116 = .ok (.iconst 1, 1) := dk_4 (dk_at dksX2_account_4 5 rfl rfl)
theorem dX2_account_117 : decode cX2_account 117 = .ok (.invokevirtual 279, 3) := dk_182 1 23 (dk_at dksX2_account_4 6 rfl rfl)
theorem dX2_account_120 : decode cX2_account 120 = .ok (.ireturn, 1) := dk_172 (dk_at dksX2_account_4 9 rfl rfl)
theorem dX2_account_121 : decode cX2_account 121 = .ok (.aload_n 0, 1) := dk_42 (dk_at dksX2_account_4 10 rfl rfl)
theorem dX2_account_122 : decode cX2_account 122 = .ok (.getfield 71, 3) := dk_180 0 71 (dk_at dksX2_account_4 11 rfl rfl)
theorem dX2_account_125 : decode cX2_account 125 = .ok (.ireturn, 1) := dk_172 (dk_at dksX2_account_4 14 rfl rfl)
theorem dX2_account_126 : decode cX2_account 126 = .ok (.aload_n 0, 1) := dk_42 (dk_at dksX2_account_4 15 rfl rfl)
theorem dX2_account_127 : decode cX2_account 127 = .ok (.getfield 207, 3) := dk_180 0 207 (dk_at dksX2_account_4 16 rfl rfl)
theorem dX2_account_130 : decode cX2_account 130 = .ok (.ireturn, 1) := dk_172 (dk_at dksX2_account_4 19 rfl rfl)
theorem dX2_account_131 : decode cX2_account 131 = .ok (.iconst (-1), 1) := dk_2 (dk_at dksX2_account_4 20 rfl rfl)
theorem dX2_account_132 : decode cX2_account 132 = .ok (.ireturn, 1) := dk_172 (dk_at dksX2_account_4 21 rfl rfl)
abbrev cX2_sumOf : ByteArray := prog_24_method_89_code
def yX2_sumOf : MethodName := ⟨RX2, "sumOf", "(I)I"⟩
def dkwX2_sumOf_2 : List UInt8 := [28, 172]
abbrev dktX2_sumOf_2 : List UInt8 := dkwX2_sumOf_2 ++ []
def dkwX2_sumOf_1 : List UInt8 := [182, 0, 67, 167, 0, 13, 42, 180, 0, 35, 29, 46, 133, 184, 1, 19, 96, 61, 132, 3, 1, 167, 255, 216]
abbrev dktX2_sumOf_1 : List UInt8 := dkwX2_sumOf_1 ++ dktX2_sumOf_2
def dkwX2_sumOf_0 : List UInt8 := [3, 61, 3, 62, 29, 42, 180, 0, 7, 3, 46, 162, 0, 36, 28, 27, 5, 162, 0, 12, 42, 29, 27]
abbrev dktX2_sumOf_0 : List UInt8 := dkwX2_sumOf_0 ++ dktX2_sumOf_1
theorem dksX2_sumOf_0 : cX2_sumOf.data.toList.drop 0 = dktX2_sumOf_0 := by decide +kernel
theorem dksX2_sumOf_1 : cX2_sumOf.data.toList.drop 23 = dktX2_sumOf_1 := dk_seg dksX2_sumOf_0 23 rfl rfl
theorem dksX2_sumOf_2 : cX2_sumOf.data.toList.drop 47 = dktX2_sumOf_2 := dk_seg dksX2_sumOf_1 24 rfl rfl
theorem dX2_sumOf_0 : decode cX2_sumOf 0 = .ok (.iconst 0, 1) := dk_3 (dk_at dksX2_sumOf_0 0 rfl rfl)
theorem dX2_sumOf_1 : decode cX2_sumOf 1 = .ok (.istore_n 2, 1) := dk_61 (dk_at dksX2_sumOf_0 1 rfl rfl)
theorem dX2_sumOf_2 : decode cX2_sumOf 2 = .ok (.iconst 0, 1) := dk_3 (dk_at dksX2_sumOf_0 2 rfl rfl)
theorem dX2_sumOf_3 : decode cX2_sumOf 3 = .ok (.istore_n 3, 1) := dk_62 (dk_at dksX2_sumOf_0 3 rfl rfl)
theorem dX2_sumOf_4 : decode cX2_sumOf 4 = .ok (.iload_n 3, 1) := dk_29 (dk_at dksX2_sumOf_0 4 rfl rfl)
theorem dX2_sumOf_5 : decode cX2_sumOf 5 = .ok (.aload_n 0, 1) := dk_42 (dk_at dksX2_sumOf_0 5 rfl rfl)
theorem dX2_sumOf_6 : decode cX2_sumOf 6 = .ok (.getfield 7, 3) := dk_180 0 7 (dk_at dksX2_sumOf_0 6 rfl rfl)
theorem dX2_sumOf_9 : decode cX2_sumOf 9 = .ok (.iconst 0, 1) := dk_3 (dk_at dksX2_sumOf_0 9 rfl rfl)
theorem dX2_sumOf_10 : decode cX2_sumOf 10 = .ok (.iaload, 1) := dk_46 (dk_at dksX2_sumOf_0 10 rfl rfl)
theorem dX2_sumOf_11 : decode cX2_sumOf 11 = .ok (.if_icmp .ge 36, 3) := dk_162 0 36 (dk_at dksX2_sumOf_0 11 rfl rfl)
theorem dX2_sumOf_14 : decode cX2_sumOf 14 = .ok (.iload_n 2, 1) := dk_28 (dk_at dksX2_sumOf_0 14 rfl rfl)
theorem dX2_sumOf_15 : decode cX2_sumOf 15 = .ok (.iload_n 1, 1) := dk_27 (dk_at dksX2_sumOf_0 15 rfl rfl)
theorem dX2_sumOf_16 : decode cX2_sumOf 16 = .ok (.iconst 2, 1) := dk_5 (dk_at dksX2_sumOf_0 16 rfl rfl)
theorem dX2_sumOf_17 : decode cX2_sumOf 17 = .ok (.if_icmp .ge 12, 3) := dk_162 0 12 (dk_at dksX2_sumOf_0 17 rfl rfl)
theorem dX2_sumOf_20 : decode cX2_sumOf 20 = .ok (.aload_n 0, 1) := dk_42 (dk_at dksX2_sumOf_0 20 rfl rfl)
theorem dX2_sumOf_21 : decode cX2_sumOf 21 = .ok (.iload_n 3, 1) := dk_29 (dk_at dksX2_sumOf_0 21 rfl rfl)
theorem dX2_sumOf_22 : decode cX2_sumOf 22 = .ok (.iload_n 1, 1) := dk_27 (dk_at dksX2_sumOf_0 22 rfl rfl)
theorem dX2_sumOf_23 : decode cX2_sumOf 23 = .ok (.invokevirtual 67, 3) := dk_182 0 67 (dk_at dksX2_sumOf_1 0 rfl rfl)
theorem dX2_sumOf_26 : decode cX2_sumOf 26 = .ok (.goto 13, 3) := dk_167 0 13 (dk_at dksX2_sumOf_1 3 rfl rfl)
theorem dX2_sumOf_29 : decode cX2_sumOf 29 = .ok (.aload_n 0, 1) := dk_42 (dk_at dksX2_sumOf_1 6 rfl rfl)
theorem dX2_sumOf_30 : decode cX2_sumOf 30 = .ok (.getfield 35, 3) := dk_180 0 35 (dk_at dksX2_sumOf_1 7 rfl rfl)
theorem dX2_sumOf_33 : decode cX2_sumOf 33 = .ok (.iload_n 3, 1) := dk_29 (dk_at dksX2_sumOf_1 10 rfl rfl)
theorem dX2_sumOf_34 : decode cX2_sumOf 34 = .ok (.iaload, 1) := dk_46 (dk_at dksX2_sumOf_1 11 rfl rfl)
theorem dX2_sumOf_35 : decode cX2_sumOf 35 = .ok (.i2l, 1) := dk_133 (dk_at dksX2_sumOf_1 12 rfl rfl)
theorem dX2_sumOf_36 : decode cX2_sumOf 36 = .ok (.invokestatic 275, 3) := dk_184 1 19 (dk_at dksX2_sumOf_1 13 rfl rfl)
theorem dX2_sumOf_39 : decode cX2_sumOf 39 = .ok (.iadd, 1) := dk_96 (dk_at dksX2_sumOf_1 16 rfl rfl)
theorem dX2_sumOf_40 : decode cX2_sumOf 40 = .ok (.istore_n 2, 1) := dk_61 (dk_at dksX2_sumOf_1 17 rfl rfl)
theorem dX2_sumOf_41 : decode cX2_sumOf 41 = .ok (.iinc 3 1, 3) := dk_132 3 1 (dk_at dksX2_sumOf_1 18 rfl rfl)
theorem dX2_sumOf_44 : decode cX2_sumOf 44 = .ok (.goto (-40), 3) := dk_167 255 216 (dk_at dksX2_sumOf_1 21 rfl rfl)
theorem dX2_sumOf_47 : decode cX2_sumOf 47 = .ok (.iload_n 2, 1) := dk_28 (dk_at dksX2_sumOf_2 0 rfl rfl)
theorem dX2_sumOf_48 : decode cX2_sumOf 48 = .ok (.ireturn, 1) := dk_172 (dk_at dksX2_sumOf_2 1 rfl rfl)
abbrev cX2_count : ByteArray := prog_24_method_43_code
def yX2_count : MethodName := ⟨RX2, "count", "(J)I"⟩
def dkwX2_count_1 : List UInt8 := [167, 255, 238, 28, 172]
abbrev dktX2_count_1 : List UInt8 := dkwX2_count_1 ++ []
def dkwX2_count_0 : List UInt8 := [3, 61, 3, 62, 29, 16, 64, 162, 0, 18, 28, 30, 29, 123, 10, 127, 136, 96, 61, 132, 3, 1]
abbrev dktX2_count_0 : List UInt8 := dkwX2_count_0 ++ dktX2_count_1
theorem dksX2_count_0 : cX2_count.data.toList.drop 0 = dktX2_count_0 := by decide +kernel
theorem dksX2_count_1 : cX2_count.data.toList.drop 22 = dktX2_count_1 := dk_seg dksX2_count_0 22 rfl rfl
theorem dX2_count_0 : decode cX2_count 0 = .ok (.iconst 0, 1) := dk_3 (dk_at dksX2_count_0 0 rfl rfl)
theorem dX2_count_1 : decode cX2_count 1 = .ok (.istore_n 2, 1) := dk_61 (dk_at dksX2_count_0 1 rfl rfl)
theorem dX2_count_2 : decode cX2_count 2 = .ok (.iconst 0, 1) := dk_3 (dk_at dksX2_count_0 2 rfl rfl)
theorem dX2_count_3 : decode cX2_count 3 = .ok (.istore_n 3, 1) := dk_62 (dk_at dksX2_count_0 3 rfl rfl)
theorem dX2_count_4 : decode cX2_count 4 = .ok (.iload_n 3, 1) := dk_29 (dk_at dksX2_count_0 4 rfl rfl)
theorem dX2_count_5 : decode cX2_count 5 = .ok (.bipush 64, 2) := dk_16 64 (dk_at dksX2_count_0 5 rfl rfl)
theorem dX2_count_7 : decode cX2_count 7 = .ok (.if_icmp .ge 18, 3) := dk_162 0 18 (dk_at dksX2_count_0 7 rfl rfl)
theorem dX2_count_10 : decode cX2_count 10 = .ok (.iload_n 2, 1) := dk_28 (dk_at dksX2_count_0 10 rfl rfl)
theorem dX2_count_11 : decode cX2_count 11 = .ok (.lload_n 0, 1) := dk_30 (dk_at dksX2_count_0 11 rfl rfl)
theorem dX2_count_12 : decode cX2_count 12 = .ok (.iload_n 3, 1) := dk_29 (dk_at dksX2_count_0 12 rfl rfl)
theorem dX2_count_13 : decode cX2_count 13 = .ok (.lshr, 1) := dk_123 (dk_at dksX2_count_0 13 rfl rfl)
theorem dX2_count_14 : decode cX2_count 14 = .ok (.lconst 1, 1) := dk_10 (dk_at dksX2_count_0 14 rfl rfl)
theorem dX2_count_15 : decode cX2_count 15 = .ok (.land, 1) := dk_127 (dk_at dksX2_count_0 15 rfl rfl)
theorem dX2_count_16 : decode cX2_count 16 = .ok (.l2i, 1) := dk_136 (dk_at dksX2_count_0 16 rfl rfl)
theorem dX2_count_17 : decode cX2_count 17 = .ok (.iadd, 1) := dk_96 (dk_at dksX2_count_0 17 rfl rfl)
theorem dX2_count_18 : decode cX2_count 18 = .ok (.istore_n 2, 1) := dk_61 (dk_at dksX2_count_0 18 rfl rfl)
theorem dX2_count_19 : decode cX2_count 19 = .ok (.iinc 3 1, 3) := dk_132 3 1 (dk_at dksX2_count_0 19 rfl rfl)
theorem dX2_count_22 : decode cX2_count 22 = .ok (.goto (-18), 3) := dk_167 255 238 (dk_at dksX2_count_1 0 rfl rfl)
theorem dX2_count_25 : decode cX2_count 25 = .ok (.iload_n 2, 1) := dk_28 (dk_at dksX2_count_1 3 rfl rfl)
theorem dX2_count_26 : decode cX2_count 26 = .ok (.ireturn, 1) := dk_172 (dk_at dksX2_count_1 4 rfl rfl)
abbrev cX2_learnedRules : ByteArray := prog_24_method_90_code
def yX2_learnedRules : MethodName := ⟨RX2, "learnedRules", "()I"⟩
def dkwX2_learnedRules_1 : List UInt8 := [160, 0, 7, 4, 167, 0, 4, 3, 96, 60, 132, 2, 1, 167, 255, 225, 27, 172]
abbrev dktX2_learnedRules_1 : List UInt8 := dkwX2_learnedRules_1 ++ []
def dkwX2_learnedRules_0 : List UInt8 := [3, 60, 3, 61, 28, 42, 180, 0, 7, 4, 46, 162, 0, 27, 27, 42, 28, 3, 182, 0, 87, 6]
abbrev dktX2_learnedRules_0 : List UInt8 := dkwX2_learnedRules_0 ++ dktX2_learnedRules_1
theorem dksX2_learnedRules_0 : cX2_learnedRules.data.toList.drop 0 = dktX2_learnedRules_0 := by decide +kernel
theorem dksX2_learnedRules_1 : cX2_learnedRules.data.toList.drop 22 = dktX2_learnedRules_1 := dk_seg dksX2_learnedRules_0 22 rfl rfl
theorem dX2_learnedRules_0 : decode cX2_learnedRules 0 = .ok (.iconst 0, 1) := dk_3 (dk_at dksX2_learnedRules_0 0 rfl rfl)
theorem dX2_learnedRules_1 : decode cX2_learnedRules 1 = .ok (.istore_n 1, 1) := dk_60 (dk_at dksX2_learnedRules_0 1 rfl rfl)
theorem dX2_learnedRules_2 : decode cX2_learnedRules 2 = .ok (.iconst 0, 1) := dk_3 (dk_at dksX2_learnedRules_0 2 rfl rfl)
theorem dX2_learnedRules_3 : decode cX2_learnedRules 3 = .ok (.istore_n 2, 1) := dk_61 (dk_at dksX2_learnedRules_0 3 rfl rfl)
theorem dX2_learnedRules_4 : decode cX2_learnedRules 4 = .ok (.iload_n 2, 1) := dk_28 (dk_at dksX2_learnedRules_0 4 rfl rfl)
theorem dX2_learnedRules_5 : decode cX2_learnedRules 5 = .ok (.aload_n 0, 1) := dk_42 (dk_at dksX2_learnedRules_0 5 rfl rfl)
theorem dX2_learnedRules_6 : decode cX2_learnedRules 6 = .ok (.getfield 7, 3) := dk_180 0 7 (dk_at dksX2_learnedRules_0 6 rfl rfl)
theorem dX2_learnedRules_9 : decode cX2_learnedRules 9 = .ok (.iconst 1, 1) := dk_4 (dk_at dksX2_learnedRules_0 9 rfl rfl)
theorem dX2_learnedRules_10 : decode cX2_learnedRules 10 = .ok (.iaload, 1) := dk_46 (dk_at dksX2_learnedRules_0 10 rfl rfl)
theorem dX2_learnedRules_11 : decode cX2_learnedRules 11 = .ok (.if_icmp .ge 27, 3) := dk_162 0 27 (dk_at dksX2_learnedRules_0 11 rfl rfl)
theorem dX2_learnedRules_14 : decode cX2_learnedRules 14 = .ok (.iload_n 1, 1) := dk_27 (dk_at dksX2_learnedRules_0 14 rfl rfl)
theorem dX2_learnedRules_15 : decode cX2_learnedRules 15 = .ok (.aload_n 0, 1) := dk_42 (dk_at dksX2_learnedRules_0 15 rfl rfl)
theorem dX2_learnedRules_16 : decode cX2_learnedRules 16 = .ok (.iload_n 2, 1) := dk_28 (dk_at dksX2_learnedRules_0 16 rfl rfl)
theorem dX2_learnedRules_17 : decode cX2_learnedRules 17 = .ok (.iconst 0, 1) := dk_3 (dk_at dksX2_learnedRules_0 17 rfl rfl)
theorem dX2_learnedRules_18 : decode cX2_learnedRules 18 = .ok (.invokevirtual 87, 3) := dk_182 0 87 (dk_at dksX2_learnedRules_0 18 rfl rfl)
theorem dX2_learnedRules_21 : decode cX2_learnedRules 21 = .ok (.iconst 3, 1) := dk_6 (dk_at dksX2_learnedRules_0 21 rfl rfl)
theorem dX2_learnedRules_22 : decode cX2_learnedRules 22 = .ok (.if_icmp .ne 7, 3) := dk_160 0 7 (dk_at dksX2_learnedRules_1 0 rfl rfl)
theorem dX2_learnedRules_25 : decode cX2_learnedRules 25 = .ok (.iconst 1, 1) := dk_4 (dk_at dksX2_learnedRules_1 3 rfl rfl)
theorem dX2_learnedRules_26 : decode cX2_learnedRules 26 = .ok (.goto 4, 3) := dk_167 0 4 (dk_at dksX2_learnedRules_1 4 rfl rfl)
theorem dX2_learnedRules_29 : decode cX2_learnedRules 29 = .ok (.iconst 0, 1) := dk_3 (dk_at dksX2_learnedRules_1 7 rfl rfl)
theorem dX2_learnedRules_30 : decode cX2_learnedRules 30 = .ok (.iadd, 1) := dk_96 (dk_at dksX2_learnedRules_1 8 rfl rfl)
theorem dX2_learnedRules_31 : decode cX2_learnedRules 31 = .ok (.istore_n 1, 1) := dk_60 (dk_at dksX2_learnedRules_1 9 rfl rfl)
theorem dX2_learnedRules_32 : decode cX2_learnedRules 32 = .ok (.iinc 2 1, 3) := dk_132 2 1 (dk_at dksX2_learnedRules_1 10 rfl rfl)
theorem dX2_learnedRules_35 : decode cX2_learnedRules 35 = .ok (.goto (-31), 3) := dk_167 255 225 (dk_at dksX2_learnedRules_1 13 rfl rfl)
theorem dX2_learnedRules_38 : decode cX2_learnedRules 38 = .ok (.iload_n 1, 1) := dk_27 (dk_at dksX2_learnedRules_1 16 rfl rfl)
theorem dX2_learnedRules_39 : decode cX2_learnedRules 39 = .ok (.ireturn, 1) := dk_172 (dk_at dksX2_learnedRules_1 17 rfl rfl)
abbrev cX2_meanStates : ByteArray := prog_24_method_92_code
def yX2_meanStates : MethodName := ⟨RX2, "meanStates", "()D"⟩
def dkwX2_meanStates_1 : List UInt8 := [180, 0, 7, 3, 46, 135, 111, 175]
abbrev dktX2_meanStates_1 : List UInt8 := dkwX2_meanStates_1 ++ []
def dkwX2_meanStates_0 : List UInt8 := [42, 182, 0, 158, 42, 180, 0, 7, 3, 46, 154, 0, 7, 14, 167, 0, 17, 42, 5, 182, 1, 23, 135, 42]
abbrev dktX2_meanStates_0 : List UInt8 := dkwX2_meanStates_0 ++ dktX2_meanStates_1
theorem dksX2_meanStates_0 : cX2_meanStates.data.toList.drop 0 = dktX2_meanStates_0 := by decide +kernel
theorem dksX2_meanStates_1 : cX2_meanStates.data.toList.drop 24 = dktX2_meanStates_1 := dk_seg dksX2_meanStates_0 24 rfl rfl
theorem dX2_meanStates_0 : decode cX2_meanStates 0 = .ok (.aload_n 0, 1) := dk_42 (dk_at dksX2_meanStates_0 0 rfl rfl)
theorem dX2_meanStates_1 : decode cX2_meanStates 1 = .ok (.invokevirtual 158, 3) := dk_182 0 158 (dk_at dksX2_meanStates_0 1 rfl rfl)
theorem dX2_meanStates_4 : decode cX2_meanStates 4 = .ok (.aload_n 0, 1) := dk_42 (dk_at dksX2_meanStates_0 4 rfl rfl)
theorem dX2_meanStates_5 : decode cX2_meanStates 5 = .ok (.getfield 7, 3) := dk_180 0 7 (dk_at dksX2_meanStates_0 5 rfl rfl)
theorem dX2_meanStates_8 : decode cX2_meanStates 8 = .ok (.iconst 0, 1) := dk_3 (dk_at dksX2_meanStates_0 8 rfl rfl)
theorem dX2_meanStates_9 : decode cX2_meanStates 9 = .ok (.iaload, 1) := dk_46 (dk_at dksX2_meanStates_0 9 rfl rfl)
theorem dX2_meanStates_10 : decode cX2_meanStates 10 = .ok (.ifCond .ne 7, 3) := dk_154 0 7 (dk_at dksX2_meanStates_0 10 rfl rfl)
theorem dX2_meanStates_13 : decode cX2_meanStates 13 = .ok (.dconst 0, 1) := dk_14 (dk_at dksX2_meanStates_0 13 rfl rfl)
theorem dX2_meanStates_14 : decode cX2_meanStates 14 = .ok (.goto 17, 3) := dk_167 0 17 (dk_at dksX2_meanStates_0 14 rfl rfl)
theorem dX2_meanStates_17 : decode cX2_meanStates 17 = .ok (.aload_n 0, 1) := dk_42 (dk_at dksX2_meanStates_0 17 rfl rfl)
theorem dX2_meanStates_18 : decode cX2_meanStates 18 = .ok (.iconst 2, 1) := dk_5 (dk_at dksX2_meanStates_0 18 rfl rfl)
theorem dX2_meanStates_19 : decode cX2_meanStates 19 = .ok (.invokevirtual 279, 3) := dk_182 1 23 (dk_at dksX2_meanStates_0 19 rfl rfl)
theorem dX2_meanStates_22 : decode cX2_meanStates 22 = .ok (.i2d, 1) := dk_135 (dk_at dksX2_meanStates_0 22 rfl rfl)
theorem dX2_meanStates_23 : decode cX2_meanStates 23 = .ok (.aload_n 0, 1) := dk_42 (dk_at dksX2_meanStates_0 23 rfl rfl)
theorem dX2_meanStates_24 : decode cX2_meanStates 24 = .ok (.getfield 7, 3) := dk_180 0 7 (dk_at dksX2_meanStates_1 0 rfl rfl)
theorem dX2_meanStates_27 : decode cX2_meanStates 27 = .ok (.iconst 0, 1) := dk_3 (dk_at dksX2_meanStates_1 3 rfl rfl)
theorem dX2_meanStates_28 : decode cX2_meanStates 28 = .ok (.iaload, 1) := dk_46 (dk_at dksX2_meanStates_1 4 rfl rfl)
theorem dX2_meanStates_29 : decode cX2_meanStates 29 = .ok (.i2d, 1) := dk_135 (dk_at dksX2_meanStates_1 5 rfl rfl)
theorem dX2_meanStates_30 : decode cX2_meanStates 30 = .ok (.ddiv, 1) := dk_111 (dk_at dksX2_meanStates_1 6 rfl rfl)
theorem dX2_meanStates_31 : decode cX2_meanStates 31 = .ok (.dreturn, 1) := dk_175 (dk_at dksX2_meanStates_1 7 rfl rfl)
abbrev cX2_undo : ByteArray := prog_24_method_93_code
def yX2_undo : MethodName := ⟨RX2, "undo", "()I"⟩
def dkwX2_undo_2 : List UInt8 := [96, 46, 79, 132, 1, 1, 167, 255, 225, 42, 180, 0, 71, 172]
abbrev dktX2_undo_2 : List UInt8 := dkwX2_undo_2 ++ []
def dkwX2_undo_1 : List UInt8 := [17, 0, 237, 162, 0, 30, 42, 180, 0, 7, 27, 42, 180, 0, 19, 17, 0, 237, 42, 180, 0, 71, 104, 27]
abbrev dktX2_undo_1 : List UInt8 := dkwX2_undo_1 ++ dktX2_undo_2
def dkwX2_undo_0 : List UInt8 := [42, 180, 0, 71, 154, 0, 6, 16, 253, 172, 42, 89, 180, 0, 71, 4, 100, 181, 0, 71, 3, 60, 27]
abbrev dktX2_undo_0 : List UInt8 := dkwX2_undo_0 ++ dktX2_undo_1
theorem dksX2_undo_0 : cX2_undo.data.toList.drop 0 = dktX2_undo_0 := by decide +kernel
theorem dksX2_undo_1 : cX2_undo.data.toList.drop 23 = dktX2_undo_1 := dk_seg dksX2_undo_0 23 rfl rfl
theorem dksX2_undo_2 : cX2_undo.data.toList.drop 47 = dktX2_undo_2 := dk_seg dksX2_undo_1 24 rfl rfl
theorem dX2_undo_0 : decode cX2_undo 0 = .ok (.aload_n 0, 1) := dk_42 (dk_at dksX2_undo_0 0 rfl rfl)
theorem dX2_undo_1 : decode cX2_undo 1 = .ok (.getfield 71, 3) := dk_180 0 71 (dk_at dksX2_undo_0 1 rfl rfl)
theorem dX2_undo_4 : decode cX2_undo 4 = .ok (.ifCond .ne 6, 3) := dk_154 0 6 (dk_at dksX2_undo_0 4 rfl rfl)
theorem dX2_undo_7 : decode cX2_undo 7 = .ok (.bipush (-3), 2) := dk_16 253 (dk_at dksX2_undo_0 7 rfl rfl)
theorem dX2_undo_9 : decode cX2_undo 9 = .ok (.ireturn, 1) := dk_172 (dk_at dksX2_undo_0 9 rfl rfl)
theorem dX2_undo_10 : decode cX2_undo 10 = .ok (.aload_n 0, 1) := dk_42 (dk_at dksX2_undo_0 10 rfl rfl)
theorem dX2_undo_11 : decode cX2_undo 11 = .ok (.dup, 1) := dk_89 (dk_at dksX2_undo_0 11 rfl rfl)
theorem dX2_undo_12 : decode cX2_undo 12 = .ok (.getfield 71, 3) := dk_180 0 71 (dk_at dksX2_undo_0 12 rfl rfl)
theorem dX2_undo_15 : decode cX2_undo 15 = .ok (.iconst 1, 1) := dk_4 (dk_at dksX2_undo_0 15 rfl rfl)
theorem dX2_undo_16 : decode cX2_undo 16 = .ok (.isub, 1) := dk_100 (dk_at dksX2_undo_0 16 rfl rfl)
theorem dX2_undo_17 : decode cX2_undo 17 = .ok (.putfield 71, 3) := dk_181 0 71 (dk_at dksX2_undo_0 17 rfl rfl)
theorem dX2_undo_20 : decode cX2_undo 20 = .ok (.iconst 0, 1) := dk_3 (dk_at dksX2_undo_0 20 rfl rfl)
theorem dX2_undo_21 : decode cX2_undo 21 = .ok (.istore_n 1, 1) := dk_60 (dk_at dksX2_undo_0 21 rfl rfl)
theorem dX2_undo_22 : decode cX2_undo 22 = .ok (.iload_n 1, 1) := dk_27 (dk_at dksX2_undo_0 22 rfl rfl)
theorem dX2_undo_23 : decode cX2_undo 23 = .ok (.sipush 237, 3) := dk_17 0 237 (dk_at dksX2_undo_1 0 rfl rfl)
theorem dX2_undo_26 : decode cX2_undo 26 = .ok (.if_icmp .ge 30, 3) := dk_162 0 30 (dk_at dksX2_undo_1 3 rfl rfl)
theorem dX2_undo_29 : decode cX2_undo 29 = .ok (.aload_n 0, 1) := dk_42 (dk_at dksX2_undo_1 6 rfl rfl)
theorem dX2_undo_30 : decode cX2_undo 30 = .ok (.getfield 7, 3) := dk_180 0 7 (dk_at dksX2_undo_1 7 rfl rfl)
theorem dX2_undo_33 : decode cX2_undo 33 = .ok (.iload_n 1, 1) := dk_27 (dk_at dksX2_undo_1 10 rfl rfl)
theorem dX2_undo_34 : decode cX2_undo 34 = .ok (.aload_n 0, 1) := dk_42 (dk_at dksX2_undo_1 11 rfl rfl)
theorem dX2_undo_35 : decode cX2_undo 35 = .ok (.getfield 19, 3) := dk_180 0 19 (dk_at dksX2_undo_1 12 rfl rfl)
theorem dX2_undo_38 : decode cX2_undo 38 = .ok (.sipush 237, 3) := dk_17 0 237 (dk_at dksX2_undo_1 15 rfl rfl)
theorem dX2_undo_41 : decode cX2_undo 41 = .ok (.aload_n 0, 1) := dk_42 (dk_at dksX2_undo_1 18 rfl rfl)
theorem dX2_undo_42 : decode cX2_undo 42 = .ok (.getfield 71, 3) := dk_180 0 71 (dk_at dksX2_undo_1 19 rfl rfl)
theorem dX2_undo_45 : decode cX2_undo 45 = .ok (.imul, 1) := dk_104 (dk_at dksX2_undo_1 22 rfl rfl)
theorem dX2_undo_46 : decode cX2_undo 46 = .ok (.iload_n 1, 1) := dk_27 (dk_at dksX2_undo_1 23 rfl rfl)
theorem dX2_undo_47 : decode cX2_undo 47 = .ok (.iadd, 1) := dk_96 (dk_at dksX2_undo_2 0 rfl rfl)
theorem dX2_undo_48 : decode cX2_undo 48 = .ok (.iaload, 1) := dk_46 (dk_at dksX2_undo_2 1 rfl rfl)
theorem dX2_undo_49 : decode cX2_undo 49 = .ok (.iastore, 1) := dk_79 (dk_at dksX2_undo_2 2 rfl rfl)
theorem dX2_undo_50 : decode cX2_undo 50 = .ok (.iinc 1 1, 3) := dk_132 1 1 (dk_at dksX2_undo_2 3 rfl rfl)
theorem dX2_undo_53 : decode cX2_undo 53 = .ok (.goto (-31), 3) := dk_167 255 225 (dk_at dksX2_undo_2 6 rfl rfl)
theorem dX2_undo_56 : decode cX2_undo 56 = .ok (.aload_n 0, 1) := dk_42 (dk_at dksX2_undo_2 9 rfl rfl)
theorem dX2_undo_57 : decode cX2_undo 57 = .ok (.getfield 71, 3) := dk_180 0 71 (dk_at dksX2_undo_2 10 rfl rfl)
theorem dX2_undo_60 : decode cX2_undo 60 = .ok (.ireturn, 1) := dk_172 (dk_at dksX2_undo_2 13 rfl rfl)
abbrev cX2_save : ByteArray := prog_24_method_94_code
def yX2_save : MethodName := ⟨RX2, "save", "()I"⟩
def dkwX2_save_1 : List UInt8 := [167, 255, 234, 42, 4, 181, 1, 29, 42, 180, 0, 7, 4, 46, 172]
abbrev dktX2_save_1 : List UInt8 := dkwX2_save_1 ++ []
def dkwX2_save_0 : List UInt8 := [3, 60, 27, 17, 0, 237, 162, 0, 21, 42, 180, 0, 13, 27, 42, 180, 0, 7, 27, 46, 79, 132, 1, 1]
abbrev dktX2_save_0 : List UInt8 := dkwX2_save_0 ++ dktX2_save_1
theorem dksX2_save_0 : cX2_save.data.toList.drop 0 = dktX2_save_0 := by decide +kernel
theorem dksX2_save_1 : cX2_save.data.toList.drop 24 = dktX2_save_1 := dk_seg dksX2_save_0 24 rfl rfl
theorem dX2_save_0 : decode cX2_save 0 = .ok (.iconst 0, 1) := dk_3 (dk_at dksX2_save_0 0 rfl rfl)
theorem dX2_save_1 : decode cX2_save 1 = .ok (.istore_n 1, 1) := dk_60 (dk_at dksX2_save_0 1 rfl rfl)
theorem dX2_save_2 : decode cX2_save 2 = .ok (.iload_n 1, 1) := dk_27 (dk_at dksX2_save_0 2 rfl rfl)
theorem dX2_save_3 : decode cX2_save 3 = .ok (.sipush 237, 3) := dk_17 0 237 (dk_at dksX2_save_0 3 rfl rfl)
theorem dX2_save_6 : decode cX2_save 6 = .ok (.if_icmp .ge 21, 3) := dk_162 0 21 (dk_at dksX2_save_0 6 rfl rfl)
theorem dX2_save_9 : decode cX2_save 9 = .ok (.aload_n 0, 1) := dk_42 (dk_at dksX2_save_0 9 rfl rfl)
theorem dX2_save_10 : decode cX2_save 10 = .ok (.getfield 13, 3) := dk_180 0 13 (dk_at dksX2_save_0 10 rfl rfl)
theorem dX2_save_13 : decode cX2_save 13 = .ok (.iload_n 1, 1) := dk_27 (dk_at dksX2_save_0 13 rfl rfl)
theorem dX2_save_14 : decode cX2_save 14 = .ok (.aload_n 0, 1) := dk_42 (dk_at dksX2_save_0 14 rfl rfl)
theorem dX2_save_15 : decode cX2_save 15 = .ok (.getfield 7, 3) := dk_180 0 7 (dk_at dksX2_save_0 15 rfl rfl)
theorem dX2_save_18 : decode cX2_save 18 = .ok (.iload_n 1, 1) := dk_27 (dk_at dksX2_save_0 18 rfl rfl)
theorem dX2_save_19 : decode cX2_save 19 = .ok (.iaload, 1) := dk_46 (dk_at dksX2_save_0 19 rfl rfl)
theorem dX2_save_20 : decode cX2_save 20 = .ok (.iastore, 1) := dk_79 (dk_at dksX2_save_0 20 rfl rfl)
theorem dX2_save_21 : decode cX2_save 21 = .ok (.iinc 1 1, 3) := dk_132 1 1 (dk_at dksX2_save_0 21 rfl rfl)
theorem dX2_save_24 : decode cX2_save 24 = .ok (.goto (-22), 3) := dk_167 255 234 (dk_at dksX2_save_1 0 rfl rfl)
theorem dX2_save_27 : decode cX2_save 27 = .ok (.aload_n 0, 1) := dk_42 (dk_at dksX2_save_1 3 rfl rfl)
theorem dX2_save_28 : decode cX2_save 28 = .ok (.iconst 1, 1) := dk_4 (dk_at dksX2_save_1 4 rfl rfl)
theorem dX2_save_29 : decode cX2_save 29 = .ok (.putfield 285, 3) := dk_181 1 29 (dk_at dksX2_save_1 5 rfl rfl)
theorem dX2_save_32 : decode cX2_save 32 = .ok (.aload_n 0, 1) := dk_42 (dk_at dksX2_save_1 8 rfl rfl)
theorem dX2_save_33 : decode cX2_save 33 = .ok (.getfield 7, 3) := dk_180 0 7 (dk_at dksX2_save_1 9 rfl rfl)
theorem dX2_save_36 : decode cX2_save 36 = .ok (.iconst 1, 1) := dk_4 (dk_at dksX2_save_1 12 rfl rfl)
theorem dX2_save_37 : decode cX2_save 37 = .ok (.iaload, 1) := dk_46 (dk_at dksX2_save_1 13 rfl rfl)
theorem dX2_save_38 : decode cX2_save 38 = .ok (.ireturn, 1) := dk_172 (dk_at dksX2_save_1 14 rfl rfl)
abbrev cX2_restore : ByteArray := prog_24_method_95_code
def yX2_restore : MethodName := ⟨RX2, "restore", "()I"⟩
def dkwX2_restore_2 : List UInt8 := [172]
abbrev dktX2_restore_2 : List UInt8 := dkwX2_restore_2 ++ []
def dkwX2_restore_1 : List UInt8 := [42, 180, 0, 13, 27, 46, 79, 132, 1, 1, 167, 255, 234, 42, 3, 181, 0, 71, 42, 180, 0, 7, 4, 46]
abbrev dktX2_restore_1 : List UInt8 := dkwX2_restore_1 ++ dktX2_restore_2
def dkwX2_restore_0 : List UInt8 := [42, 180, 1, 29, 154, 0, 6, 16, 253, 172, 3, 60, 27, 17, 0, 237, 162, 0, 21, 42, 180, 0, 7, 27]
abbrev dktX2_restore_0 : List UInt8 := dkwX2_restore_0 ++ dktX2_restore_1
theorem dksX2_restore_0 : cX2_restore.data.toList.drop 0 = dktX2_restore_0 := by decide +kernel
theorem dksX2_restore_1 : cX2_restore.data.toList.drop 24 = dktX2_restore_1 := dk_seg dksX2_restore_0 24 rfl rfl
theorem dksX2_restore_2 : cX2_restore.data.toList.drop 48 = dktX2_restore_2 := dk_seg dksX2_restore_1 24 rfl rfl
theorem dX2_restore_0 : decode cX2_restore 0 = .ok (.aload_n 0, 1) := dk_42 (dk_at dksX2_restore_0 0 rfl rfl)
theorem dX2_restore_1 : decode cX2_restore 1 = .ok (.getfield 285, 3) := dk_180 1 29 (dk_at dksX2_restore_0 1 rfl rfl)
theorem dX2_restore_4 : decode cX2_restore 4 = .ok (.ifCond .ne 6, 3) := dk_154 0 6 (dk_at dksX2_restore_0 4 rfl rfl)
theorem dX2_restore_7 : decode cX2_restore 7 = .ok (.bipush (-3), 2) := dk_16 253 (dk_at dksX2_restore_0 7 rfl rfl)
theorem dX2_restore_9 : decode cX2_restore 9 = .ok (.ireturn, 1) := dk_172 (dk_at dksX2_restore_0 9 rfl rfl)
theorem dX2_restore_10 : decode cX2_restore 10 = .ok (.iconst 0, 1) := dk_3 (dk_at dksX2_restore_0 10 rfl rfl)
theorem dX2_restore_11 : decode cX2_restore 11 = .ok (.istore_n 1, 1) := dk_60 (dk_at dksX2_restore_0 11 rfl rfl)
theorem dX2_restore_12 : decode cX2_restore 12 = .ok (.iload_n 1, 1) := dk_27 (dk_at dksX2_restore_0 12 rfl rfl)
theorem dX2_restore_13 : decode cX2_restore 13 = .ok (.sipush 237, 3) := dk_17 0 237 (dk_at dksX2_restore_0 13 rfl rfl)
theorem dX2_restore_16 : decode cX2_restore 16 = .ok (.if_icmp .ge 21, 3) := dk_162 0 21 (dk_at dksX2_restore_0 16 rfl rfl)
theorem dX2_restore_19 : decode cX2_restore 19 = .ok (.aload_n 0, 1) := dk_42 (dk_at dksX2_restore_0 19 rfl rfl)
theorem dX2_restore_20 : decode cX2_restore 20 = .ok (.getfield 7, 3) := dk_180 0 7 (dk_at dksX2_restore_0 20 rfl rfl)
theorem dX2_restore_23 : decode cX2_restore 23 = .ok (.iload_n 1, 1) := dk_27 (dk_at dksX2_restore_0 23 rfl rfl)
theorem dX2_restore_24 : decode cX2_restore 24 = .ok (.aload_n 0, 1) := dk_42 (dk_at dksX2_restore_1 0 rfl rfl)
theorem dX2_restore_25 : decode cX2_restore 25 = .ok (.getfield 13, 3) := dk_180 0 13 (dk_at dksX2_restore_1 1 rfl rfl)
theorem dX2_restore_28 : decode cX2_restore 28 = .ok (.iload_n 1, 1) := dk_27 (dk_at dksX2_restore_1 4 rfl rfl)
theorem dX2_restore_29 : decode cX2_restore 29 = .ok (.iaload, 1) := dk_46 (dk_at dksX2_restore_1 5 rfl rfl)
theorem dX2_restore_30 : decode cX2_restore 30 = .ok (.iastore, 1) := dk_79 (dk_at dksX2_restore_1 6 rfl rfl)
theorem dX2_restore_31 : decode cX2_restore 31 = .ok (.iinc 1 1, 3) := dk_132 1 1 (dk_at dksX2_restore_1 7 rfl rfl)
theorem dX2_restore_34 : decode cX2_restore 34 = .ok (.goto (-22), 3) := dk_167 255 234 (dk_at dksX2_restore_1 10 rfl rfl)
theorem dX2_restore_37 : decode cX2_restore 37 = .ok (.aload_n 0, 1) := dk_42 (dk_at dksX2_restore_1 13 rfl rfl)
theorem dX2_restore_38 : decode cX2_restore 38 = .ok (.iconst 0, 1) := dk_3 (dk_at dksX2_restore_1 14 rfl rfl)
theorem dX2_restore_39 : decode cX2_restore 39 = .ok (.putfield 71, 3) := dk_181 0 71 (dk_at dksX2_restore_1 15 rfl rfl)
theorem dX2_restore_42 : decode cX2_restore 42 = .ok (.aload_n 0, 1) := dk_42 (dk_at dksX2_restore_1 18 rfl rfl)
theorem dX2_restore_43 : decode cX2_restore 43 = .ok (.getfield 7, 3) := dk_180 0 7 (dk_at dksX2_restore_1 19 rfl rfl)
theorem dX2_restore_46 : decode cX2_restore 46 = .ok (.iconst 1, 1) := dk_4 (dk_at dksX2_restore_1 22 rfl rfl)
theorem dX2_restore_47 : decode cX2_restore 47 = .ok (.iaload, 1) := dk_46 (dk_at dksX2_restore_1 23 rfl rfl)
theorem dX2_restore_48 : decode cX2_restore 48 = .ok (.ireturn, 1) := dk_172 (dk_at dksX2_restore_2 0 rfl rfl)
theorem q100 : (Jvm.Cond.initialized "VersionSolverModel") ∈ lw_all := lw_g (lw_at lw_m1 11 rfl) rfl
theorem q424 : (Jvm.Cond.selects "VersionSolverModel" ({ cls := "java/lang/Object", name := "getClass", desc := "()Ljava/lang/Class;" } : Jvm.MethodName) ({ cls := "java/lang/Object", name := "getClass", desc := "()Ljava/lang/Class;" } : Jvm.MethodName)) ∈ lw_all := lw_g (lw_at lw_m2 95 rfl) rfl
theorem q2005 : (Jvm.Cond.instantiable "VersionSolverModel" (27 : Nat)) ∈ lw_all := lw_g (lw_at lw_m8 236 rfl) rfl
theorem q2007 : (Jvm.Cond.instanceMethod ({ cls := "VersionSolverModel", name := "<init>", desc := "()V" } : Jvm.MethodName)) ∈ lw_all := lw_g (lw_at lw_m8 238 rfl) rfl
theorem q2008 : (Jvm.Cond.code ({ cls := "VersionSolverModel", name := "<init>", desc := "()V" } : Jvm.MethodName) prog_24_method_1_code (1 : Nat) (Option.none : Option Jvm.ClassFile.FieldType)) ∈ lw_all := lw_g (lw_at lw_m8 239 rfl) rfl
theorem q2009 : (Jvm.Cond.methodLink "VersionSolverModel" (1 : Nat) ({ cls := "java/lang/Object", name := "<init>", desc := "()V" } : Jvm.MethodName)) ∈ lw_all := lw_g (lw_at lw_m9 0 rfl) rfl
theorem q2010 : (Jvm.Cond.fieldLink "VersionSolverModel" (7 : Nat) "VersionSolverModel" "s" "[I") ∈ lw_all := lw_g (lw_at lw_m9 1 rfl) rfl
theorem q2011 : (Jvm.Cond.fieldLink "VersionSolverModel" (13 : Nat) "VersionSolverModel" "saved" "[I") ∈ lw_all := lw_g (lw_at lw_m9 2 rfl) rfl
theorem q2012 : (Jvm.Cond.fieldLink "VersionSolverModel" (16 : Nat) "VersionSolverModel" "frame" "[I") ∈ lw_all := lw_g (lw_at lw_m9 3 rfl) rfl
theorem q2013 : (Jvm.Cond.fieldLink "VersionSolverModel" (19 : Nat) "VersionSolverModel" "history" "[I") ∈ lw_all := lw_g (lw_at lw_m9 4 rfl) rfl
theorem q2014 : (Jvm.Cond.fieldLink "VersionSolverModel" (71 : Nat) "VersionSolverModel" "kept" "I") ∈ lw_all := lw_g (lw_at lw_m9 5 rfl) rfl
theorem q2015 : (Jvm.Cond.fieldLink "VersionSolverModel" (285 : Nat) "VersionSolverModel" "hasSaved" "Z") ∈ lw_all := lw_g (lw_at lw_m9 6 rfl) rfl
theorem q2016 : (Jvm.Cond.fieldLink "VersionSolverModel" (22 : Nat) "VersionSolverModel" "text" "[I") ∈ lw_all := lw_g (lw_at lw_m9 7 rfl) rfl
theorem q2017 : (Jvm.Cond.fieldLink "VersionSolverModel" (207 : Nat) "VersionSolverModel" "length" "I") ∈ lw_all := lw_g (lw_at lw_m9 8 rfl) rfl
theorem q2018 : (Jvm.Cond.fieldLink "VersionSolverModel" (25 : Nat) "VersionSolverModel" "errorAt" "I") ∈ lw_all := lw_g (lw_at lw_m9 9 rfl) rfl
theorem q2019 : (Jvm.Cond.fieldLink "VersionSolverModel" (29 : Nat) "VersionSolverModel" "itemAt" "I") ∈ lw_all := lw_g (lw_at lw_m9 10 rfl) rfl
theorem q2020 : (Jvm.Cond.fieldLink "VersionSolverModel" (32 : Nat) "VersionSolverModel" "reported" "[I") ∈ lw_all := lw_g (lw_at lw_m9 11 rfl) rfl
theorem q2021 : (Jvm.Cond.fieldLink "VersionSolverModel" (246 : Nat) "VersionSolverModel" "written" "I") ∈ lw_all := lw_g (lw_at lw_m9 12 rfl) rfl
theorem q2022 : (Jvm.Cond.fieldLink "VersionSolverModel" (35 : Nat) "VersionSolverModel" "left" "[I") ∈ lw_all := lw_g (lw_at lw_m9 13 rfl) rfl
theorem q2023 : (Jvm.Cond.fieldLink "VersionSolverModel" (38 : Nat) "VersionSolverModel" "by" "[I") ∈ lw_all := lw_g (lw_at lw_m9 14 rfl) rfl
theorem q2024 : (Jvm.Cond.fieldLink "VersionSolverModel" (41 : Nat) "VersionSolverModel" "ofPack" "[I") ∈ lw_all := lw_g (lw_at lw_m9 15 rfl) rfl
theorem q2025 : (Jvm.Cond.fieldLink "VersionSolverModel" (44 : Nat) "VersionSolverModel" "out" "[I") ∈ lw_all := lw_g (lw_at lw_m9 16 rfl) rfl
theorem q2026 : (Jvm.Cond.fieldLink "VersionSolverModel" (132 : Nat) "VersionSolverModel" "steps" "I") ∈ lw_all := lw_g (lw_at lw_m9 17 rfl) rfl
theorem q2027 : (Jvm.Cond.fieldLink "VersionSolverModel" (129 : Nat) "VersionSolverModel" "against" "I") ∈ lw_all := lw_g (lw_at lw_m9 18 rfl) rfl
theorem q2028 : (Jvm.Cond.fieldLink "VersionSolverModel" (47 : Nat) "VersionSolverModel" "chosen" "[I") ∈ lw_all := lw_g (lw_at lw_m9 19 rfl) rfl
theorem q2029 : (Jvm.Cond.fieldLink "VersionSolverModel" (50 : Nat) "VersionSolverModel" "bestStates" "[I") ∈ lw_all := lw_g (lw_at lw_m9 20 rfl) rfl
theorem q2030 : (Jvm.Cond.fieldLink "VersionSolverModel" (53 : Nat) "VersionSolverModel" "possibles" "[I") ∈ lw_all := lw_g (lw_at lw_m9 21 rfl) rfl
theorem q2031 : (Jvm.Cond.fieldLink "VersionSolverModel" (190 : Nat) "VersionSolverModel" "found" "I") ∈ lw_all := lw_g (lw_at lw_m9 22 rfl) rfl
theorem q2032 : (Jvm.Cond.fieldLink "VersionSolverModel" (210 : Nat) "VersionSolverModel" "spot" "I") ∈ lw_all := lw_g (lw_at lw_m9 23 rfl) rfl
theorem q2033 : (Jvm.Cond.fieldLink "VersionSolverModel" (213 : Nat) "VersionSolverModel" "end" "I") ∈ lw_all := lw_g (lw_at lw_m9 24 rfl) rfl
theorem q2034 : (Jvm.Cond.fieldLink "VersionSolverModel" (219 : Nat) "VersionSolverModel" "isRight" "Z") ∈ lw_all := lw_g (lw_at lw_m9 25 rfl) rfl
theorem q2035 : (Jvm.Cond.fieldLink "VersionSolverModel" (56 : Nat) "VersionSolverModel" "items" "[I") ∈ lw_all := lw_g (lw_at lw_m9 26 rfl) rfl
theorem q2036 : (Jvm.Cond.fieldLink "VersionSolverModel" (223 : Nat) "VersionSolverModel" "many" "I") ∈ lw_all := lw_g (lw_at lw_m9 27 rfl) rfl
theorem q2037 : (Jvm.Cond.laysFinal "VersionSolverModel" "VersionSolverModel" "s" "[I") ∈ lw_all := lw_g (lw_at lw_m9 28 rfl) rfl
theorem q2038 : (Jvm.Cond.soleField "VersionSolverModel" "s") ∈ lw_all := lw_g (lw_at lw_m9 29 rfl) rfl
theorem q2039 : (Jvm.Cond.laysFinal "VersionSolverModel" "VersionSolverModel" "saved" "[I") ∈ lw_all := lw_g (lw_at lw_m9 30 rfl) rfl
theorem q2040 : (Jvm.Cond.soleField "VersionSolverModel" "saved") ∈ lw_all := lw_g (lw_at lw_m9 31 rfl) rfl
theorem q2041 : (Jvm.Cond.laysFinal "VersionSolverModel" "VersionSolverModel" "frame" "[I") ∈ lw_all := lw_g (lw_at lw_m9 32 rfl) rfl
theorem q2042 : (Jvm.Cond.soleField "VersionSolverModel" "frame") ∈ lw_all := lw_g (lw_at lw_m9 33 rfl) rfl
theorem q2043 : (Jvm.Cond.laysFinal "VersionSolverModel" "VersionSolverModel" "history" "[I") ∈ lw_all := lw_g (lw_at lw_m9 34 rfl) rfl
theorem q2044 : (Jvm.Cond.soleField "VersionSolverModel" "history") ∈ lw_all := lw_g (lw_at lw_m9 35 rfl) rfl
theorem q2045 : (Jvm.Cond.lays "VersionSolverModel" "VersionSolverModel" "kept" "I") ∈ lw_all := lw_g (lw_at lw_m9 36 rfl) rfl
theorem q2046 : (Jvm.Cond.soleField "VersionSolverModel" "kept") ∈ lw_all := lw_g (lw_at lw_m9 37 rfl) rfl
theorem q2047 : (Jvm.Cond.lays "VersionSolverModel" "VersionSolverModel" "hasSaved" "Z") ∈ lw_all := lw_g (lw_at lw_m9 38 rfl) rfl
theorem q2048 : (Jvm.Cond.soleField "VersionSolverModel" "hasSaved") ∈ lw_all := lw_g (lw_at lw_m9 39 rfl) rfl
theorem q2049 : (Jvm.Cond.laysFinal "VersionSolverModel" "VersionSolverModel" "text" "[I") ∈ lw_all := lw_g (lw_at lw_m9 40 rfl) rfl
theorem q2050 : (Jvm.Cond.soleField "VersionSolverModel" "text") ∈ lw_all := lw_g (lw_at lw_m9 41 rfl) rfl
theorem q2051 : (Jvm.Cond.lays "VersionSolverModel" "VersionSolverModel" "length" "I") ∈ lw_all := lw_g (lw_at lw_m9 42 rfl) rfl
theorem q2052 : (Jvm.Cond.soleField "VersionSolverModel" "length") ∈ lw_all := lw_g (lw_at lw_m9 43 rfl) rfl
theorem q2053 : (Jvm.Cond.lays "VersionSolverModel" "VersionSolverModel" "errorAt" "I") ∈ lw_all := lw_g (lw_at lw_m9 44 rfl) rfl
theorem q2054 : (Jvm.Cond.soleField "VersionSolverModel" "errorAt") ∈ lw_all := lw_g (lw_at lw_m9 45 rfl) rfl
theorem q2055 : (Jvm.Cond.lays "VersionSolverModel" "VersionSolverModel" "itemAt" "I") ∈ lw_all := lw_g (lw_at lw_m9 46 rfl) rfl
theorem q2056 : (Jvm.Cond.soleField "VersionSolverModel" "itemAt") ∈ lw_all := lw_g (lw_at lw_m9 47 rfl) rfl
theorem q2057 : (Jvm.Cond.laysFinal "VersionSolverModel" "VersionSolverModel" "reported" "[I") ∈ lw_all := lw_g (lw_at lw_m9 48 rfl) rfl
theorem q2058 : (Jvm.Cond.soleField "VersionSolverModel" "reported") ∈ lw_all := lw_g (lw_at lw_m9 49 rfl) rfl
theorem q2059 : (Jvm.Cond.lays "VersionSolverModel" "VersionSolverModel" "written" "I") ∈ lw_all := lw_g (lw_at lw_m9 50 rfl) rfl
theorem q2060 : (Jvm.Cond.soleField "VersionSolverModel" "written") ∈ lw_all := lw_g (lw_at lw_m9 51 rfl) rfl
theorem q2061 : (Jvm.Cond.laysFinal "VersionSolverModel" "VersionSolverModel" "left" "[I") ∈ lw_all := lw_g (lw_at lw_m9 52 rfl) rfl
theorem q2062 : (Jvm.Cond.soleField "VersionSolverModel" "left") ∈ lw_all := lw_g (lw_at lw_m9 53 rfl) rfl
theorem q2063 : (Jvm.Cond.laysFinal "VersionSolverModel" "VersionSolverModel" "by" "[I") ∈ lw_all := lw_g (lw_at lw_m9 54 rfl) rfl
theorem q2064 : (Jvm.Cond.soleField "VersionSolverModel" "by") ∈ lw_all := lw_g (lw_at lw_m9 55 rfl) rfl
theorem q2065 : (Jvm.Cond.laysFinal "VersionSolverModel" "VersionSolverModel" "ofPack" "[I") ∈ lw_all := lw_g (lw_at lw_m9 56 rfl) rfl
theorem q2066 : (Jvm.Cond.soleField "VersionSolverModel" "ofPack") ∈ lw_all := lw_g (lw_at lw_m9 57 rfl) rfl
theorem q2067 : (Jvm.Cond.laysFinal "VersionSolverModel" "VersionSolverModel" "out" "[I") ∈ lw_all := lw_g (lw_at lw_m9 58 rfl) rfl
theorem q2068 : (Jvm.Cond.soleField "VersionSolverModel" "out") ∈ lw_all := lw_g (lw_at lw_m9 59 rfl) rfl
theorem q2069 : (Jvm.Cond.lays "VersionSolverModel" "VersionSolverModel" "steps" "I") ∈ lw_all := lw_g (lw_at lw_m9 60 rfl) rfl
theorem q2070 : (Jvm.Cond.soleField "VersionSolverModel" "steps") ∈ lw_all := lw_g (lw_at lw_m9 61 rfl) rfl
theorem q2071 : (Jvm.Cond.lays "VersionSolverModel" "VersionSolverModel" "against" "I") ∈ lw_all := lw_g (lw_at lw_m9 62 rfl) rfl
theorem q2072 : (Jvm.Cond.soleField "VersionSolverModel" "against") ∈ lw_all := lw_g (lw_at lw_m9 63 rfl) rfl
theorem q2073 : (Jvm.Cond.laysFinal "VersionSolverModel" "VersionSolverModel" "chosen" "[I") ∈ lw_all := lw_g (lw_at lw_m9 64 rfl) rfl
theorem q2074 : (Jvm.Cond.soleField "VersionSolverModel" "chosen") ∈ lw_all := lw_g (lw_at lw_m9 65 rfl) rfl
theorem q2075 : (Jvm.Cond.laysFinal "VersionSolverModel" "VersionSolverModel" "bestStates" "[I") ∈ lw_all := lw_g (lw_at lw_m9 66 rfl) rfl
theorem q2076 : (Jvm.Cond.soleField "VersionSolverModel" "bestStates") ∈ lw_all := lw_g (lw_at lw_m9 67 rfl) rfl
theorem q2077 : (Jvm.Cond.laysFinal "VersionSolverModel" "VersionSolverModel" "possibles" "[I") ∈ lw_all := lw_g (lw_at lw_m9 68 rfl) rfl
theorem q2078 : (Jvm.Cond.soleField "VersionSolverModel" "possibles") ∈ lw_all := lw_g (lw_at lw_m9 69 rfl) rfl
theorem q2079 : (Jvm.Cond.lays "VersionSolverModel" "VersionSolverModel" "found" "I") ∈ lw_all := lw_g (lw_at lw_m9 70 rfl) rfl
theorem q2080 : (Jvm.Cond.soleField "VersionSolverModel" "found") ∈ lw_all := lw_g (lw_at lw_m9 71 rfl) rfl
theorem q2081 : (Jvm.Cond.lays "VersionSolverModel" "VersionSolverModel" "spot" "I") ∈ lw_all := lw_g (lw_at lw_m9 72 rfl) rfl
theorem q2082 : (Jvm.Cond.soleField "VersionSolverModel" "spot") ∈ lw_all := lw_g (lw_at lw_m9 73 rfl) rfl
theorem q2083 : (Jvm.Cond.lays "VersionSolverModel" "VersionSolverModel" "end" "I") ∈ lw_all := lw_g (lw_at lw_m9 74 rfl) rfl
theorem q2084 : (Jvm.Cond.soleField "VersionSolverModel" "end") ∈ lw_all := lw_g (lw_at lw_m9 75 rfl) rfl
theorem q2085 : (Jvm.Cond.lays "VersionSolverModel" "VersionSolverModel" "isRight" "Z") ∈ lw_all := lw_g (lw_at lw_m9 76 rfl) rfl
theorem q2086 : (Jvm.Cond.soleField "VersionSolverModel" "isRight") ∈ lw_all := lw_g (lw_at lw_m9 77 rfl) rfl
theorem q2087 : (Jvm.Cond.laysFinal "VersionSolverModel" "VersionSolverModel" "items" "[I") ∈ lw_all := lw_g (lw_at lw_m9 78 rfl) rfl
theorem q2088 : (Jvm.Cond.soleField "VersionSolverModel" "items") ∈ lw_all := lw_g (lw_at lw_m9 79 rfl) rfl
theorem q2089 : (Jvm.Cond.lays "VersionSolverModel" "VersionSolverModel" "many" "I") ∈ lw_all := lw_g (lw_at lw_m9 80 rfl) rfl
theorem q2090 : (Jvm.Cond.soleField "VersionSolverModel" "many") ∈ lw_all := lw_g (lw_at lw_m9 81 rfl) rfl
theorem q2091 : (Jvm.Cond.superclass "VersionSolverModel" "java/lang/Object") ∈ lw_all := lw_g (lw_at lw_m9 82 rfl) rfl
theorem q2093 : (Jvm.Cond.instanceMethod ({ cls := "VersionSolverModel", name := "pack", desc := "()I" } : Jvm.MethodName)) ∈ lw_all := lw_g (lw_at lw_m9 84 rfl) rfl
theorem q2094 : (Jvm.Cond.selects "VersionSolverModel" ({ cls := "VersionSolverModel", name := "pack", desc := "()I" } : Jvm.MethodName) ({ cls := "VersionSolverModel", name := "pack", desc := "()I" } : Jvm.MethodName)) ∈ lw_all := lw_g (lw_at lw_m9 85 rfl) rfl
theorem q2095 : (Jvm.Cond.code ({ cls := "VersionSolverModel", name := "pack", desc := "()I" } : Jvm.MethodName) prog_24_method_14_code (3 : Nat) (Option.some Jvm.ClassFile.FieldType.int)) ∈ lw_all := lw_g (lw_at lw_m9 86 rfl) rfl
theorem q2096 : (Jvm.Cond.methodLink "VersionSolverModel" (81 : Nat) ({ cls := "VersionSolverModel", name := "remembers", desc := "()V" } : Jvm.MethodName)) ∈ lw_all := lw_g (lw_at lw_m9 87 rfl) rfl
theorem q2097 : (Jvm.Cond.privateMethod ({ cls := "VersionSolverModel", name := "remembers", desc := "()V" } : Jvm.MethodName)) ∈ lw_tbl := lw_at lw_m9 88 rfl
theorem q2098 : (Jvm.Cond.instanceMethod ({ cls := "VersionSolverModel", name := "remembers", desc := "()V" } : Jvm.MethodName)) ∈ lw_all := lw_g (lw_at lw_m9 89 rfl) rfl
theorem q2099 : (Jvm.Cond.code ({ cls := "VersionSolverModel", name := "remembers", desc := "()V" } : Jvm.MethodName) prog_24_method_9_code (2 : Nat) (Option.none : Option Jvm.ClassFile.FieldType)) ∈ lw_all := lw_g (lw_at lw_m9 90 rfl) rfl
theorem q2100 : (Jvm.Cond.methodLink "VersionSolverModel" (84 : Nat) ({ cls := "VersionSolverModel", name := "changed", desc := "(I)I" } : Jvm.MethodName)) ∈ lw_all := lw_g (lw_at lw_m9 91 rfl) rfl
theorem q2101 : (Jvm.Cond.privateMethod ({ cls := "VersionSolverModel", name := "changed", desc := "(I)I" } : Jvm.MethodName)) ∈ lw_tbl := lw_at lw_m9 92 rfl
theorem q2102 : (Jvm.Cond.instanceMethod ({ cls := "VersionSolverModel", name := "changed", desc := "(I)I" } : Jvm.MethodName)) ∈ lw_all := lw_g (lw_at lw_m9 93 rfl) rfl
theorem q2103 : (Jvm.Cond.code ({ cls := "VersionSolverModel", name := "changed", desc := "(I)I" } : Jvm.MethodName) prog_24_method_10_code (3 : Nat) (Option.some Jvm.ClassFile.FieldType.int)) ∈ lw_all := lw_g (lw_at lw_m9 94 rfl) rfl
theorem q2105 : (Jvm.Cond.instanceMethod ({ cls := "VersionSolverModel", name := "version", desc := "(IIII)I" } : Jvm.MethodName)) ∈ lw_all := lw_g (lw_at lw_m9 96 rfl) rfl
theorem q2106 : (Jvm.Cond.selects "VersionSolverModel" ({ cls := "VersionSolverModel", name := "version", desc := "(IIII)I" } : Jvm.MethodName) ({ cls := "VersionSolverModel", name := "version", desc := "(IIII)I" } : Jvm.MethodName)) ∈ lw_all := lw_g (lw_at lw_m9 97 rfl) rfl
theorem q2107 : (Jvm.Cond.code ({ cls := "VersionSolverModel", name := "version", desc := "(IIII)I" } : Jvm.MethodName) prog_24_method_15_code (8 : Nat) (Option.some Jvm.ClassFile.FieldType.int)) ∈ lw_all := lw_g (lw_at lw_m9 98 rfl) rfl
theorem q2108 : (Jvm.Cond.methodLink "VersionSolverModel" (63 : Nat) ({ cls := "VersionSolverModel", name := "isPack", desc := "(I)Z" } : Jvm.MethodName)) ∈ lw_all := lw_g (lw_at lw_m9 99 rfl) rfl
theorem q2109 : (Jvm.Cond.privateMethod ({ cls := "VersionSolverModel", name := "isPack", desc := "(I)Z" } : Jvm.MethodName)) ∈ lw_tbl := lw_at lw_m9 100 rfl
theorem q2110 : (Jvm.Cond.instanceMethod ({ cls := "VersionSolverModel", name := "isPack", desc := "(I)Z" } : Jvm.MethodName)) ∈ lw_all := lw_g (lw_at lw_m9 101 rfl) rfl
theorem q2111 : (Jvm.Cond.code ({ cls := "VersionSolverModel", name := "isPack", desc := "(I)Z" } : Jvm.MethodName) prog_24_method_5_code (2 : Nat) (Option.some Jvm.ClassFile.FieldType.boolean)) ∈ lw_all := lw_g (lw_at lw_m9 102 rfl) rfl
theorem q2112 : (Jvm.Cond.methodLink "VersionSolverModel" (59 : Nat) ({ cls := "VersionSolverModel", name := "in", desc := "(III)Z" } : Jvm.MethodName)) ∈ lw_all := lw_g (lw_at lw_m9 103 rfl) rfl
theorem q2113 : (Jvm.Cond.static ({ cls := "VersionSolverModel", name := "in", desc := "(III)Z" } : Jvm.MethodName)) ∈ lw_all := lw_g (lw_at lw_m9 104 rfl) rfl
theorem q2114 : (Jvm.Cond.code ({ cls := "VersionSolverModel", name := "in", desc := "(III)Z" } : Jvm.MethodName) prog_24_method_2_code (3 : Nat) (Option.some Jvm.ClassFile.FieldType.boolean)) ∈ lw_all := lw_g (lw_at lw_m9 105 rfl) rfl
theorem q2115 : (Jvm.Cond.methodLink "VersionSolverModel" (67 : Nat) ({ cls := "VersionSolverModel", name := "of", desc := "(II)I" } : Jvm.MethodName)) ∈ lw_all := lw_g (lw_at lw_m9 106 rfl) rfl
theorem q2116 : (Jvm.Cond.privateMethod ({ cls := "VersionSolverModel", name := "of", desc := "(II)I" } : Jvm.MethodName)) ∈ lw_tbl := lw_at lw_m9 107 rfl
theorem q2117 : (Jvm.Cond.instanceMethod ({ cls := "VersionSolverModel", name := "of", desc := "(II)I" } : Jvm.MethodName)) ∈ lw_all := lw_g (lw_at lw_m9 108 rfl) rfl
theorem q2118 : (Jvm.Cond.code ({ cls := "VersionSolverModel", name := "of", desc := "(II)I" } : Jvm.MethodName) prog_24_method_3_code (3 : Nat) (Option.some Jvm.ClassFile.FieldType.int)) ∈ lw_all := lw_g (lw_at lw_m9 109 rfl) rfl
theorem q2120 : (Jvm.Cond.instanceMethod ({ cls := "VersionSolverModel", name := "open", desc := "(IZ)I" } : Jvm.MethodName)) ∈ lw_all := lw_g (lw_at lw_m9 111 rfl) rfl
theorem q2121 : (Jvm.Cond.selects "VersionSolverModel" ({ cls := "VersionSolverModel", name := "open", desc := "(IZ)I" } : Jvm.MethodName) ({ cls := "VersionSolverModel", name := "open", desc := "(IZ)I" } : Jvm.MethodName)) ∈ lw_all := lw_g (lw_at lw_m9 112 rfl) rfl
theorem q2122 : (Jvm.Cond.code ({ cls := "VersionSolverModel", name := "open", desc := "(IZ)I" } : Jvm.MethodName) prog_24_method_16_code (4 : Nat) (Option.some Jvm.ClassFile.FieldType.int)) ∈ lw_all := lw_g (lw_at lw_m9 113 rfl) rfl
theorem q2124 : (Jvm.Cond.instanceMethod ({ cls := "VersionSolverModel", name := "ofVersion", desc := "(III)I" } : Jvm.MethodName)) ∈ lw_all := lw_g (lw_at lw_m9 115 rfl) rfl
theorem q2125 : (Jvm.Cond.selects "VersionSolverModel" ({ cls := "VersionSolverModel", name := "ofVersion", desc := "(III)I" } : Jvm.MethodName) ({ cls := "VersionSolverModel", name := "ofVersion", desc := "(III)I" } : Jvm.MethodName)) ∈ lw_all := lw_g (lw_at lw_m9 116 rfl) rfl
theorem q2126 : (Jvm.Cond.code ({ cls := "VersionSolverModel", name := "ofVersion", desc := "(III)I" } : Jvm.MethodName) prog_24_method_19_code (5 : Nat) (Option.some Jvm.ClassFile.FieldType.int)) ∈ lw_all := lw_g (lw_at lw_m9 117 rfl) rfl
theorem q2127 : (Jvm.Cond.methodLink "VersionSolverModel" (90 : Nat) ({ cls := "VersionSolverModel", name := "isVersion", desc := "(II)Z" } : Jvm.MethodName)) ∈ lw_all := lw_g (lw_at lw_m9 118 rfl) rfl
theorem q2128 : (Jvm.Cond.privateMethod ({ cls := "VersionSolverModel", name := "isVersion", desc := "(II)Z" } : Jvm.MethodName)) ∈ lw_tbl := lw_at lw_m9 119 rfl
theorem q2129 : (Jvm.Cond.instanceMethod ({ cls := "VersionSolverModel", name := "isVersion", desc := "(II)Z" } : Jvm.MethodName)) ∈ lw_all := lw_g (lw_at lw_m9 120 rfl) rfl
theorem q2130 : (Jvm.Cond.code ({ cls := "VersionSolverModel", name := "isVersion", desc := "(II)Z" } : Jvm.MethodName) prog_24_method_6_code (3 : Nat) (Option.some Jvm.ClassFile.FieldType.boolean)) ∈ lw_all := lw_g (lw_at lw_m9 121 rfl) rfl
theorem q2131 : (Jvm.Cond.methodLink "VersionSolverModel" (94 : Nat) ({ cls := "VersionSolverModel", name := "beforeOf", desc := "(II)I" } : Jvm.MethodName)) ∈ lw_all := lw_g (lw_at lw_m9 122 rfl) rfl
theorem q2132 : (Jvm.Cond.privateMethod ({ cls := "VersionSolverModel", name := "beforeOf", desc := "(II)I" } : Jvm.MethodName)) ∈ lw_tbl := lw_at lw_m9 123 rfl
theorem q2133 : (Jvm.Cond.instanceMethod ({ cls := "VersionSolverModel", name := "beforeOf", desc := "(II)I" } : Jvm.MethodName)) ∈ lw_all := lw_g (lw_at lw_m9 124 rfl) rfl
theorem q2134 : (Jvm.Cond.code ({ cls := "VersionSolverModel", name := "beforeOf", desc := "(II)I" } : Jvm.MethodName) prog_24_method_17_code (5 : Nat) (Option.some Jvm.ClassFile.FieldType.int)) ∈ lw_all := lw_g (lw_at lw_m9 125 rfl) rfl
theorem q2135 : (Jvm.Cond.methodLink "VersionSolverModel" (74 : Nat) ({ cls := "VersionSolverModel", name := "order", desc := "(I)I" } : Jvm.MethodName)) ∈ lw_all := lw_g (lw_at lw_m9 126 rfl) rfl
theorem q2136 : (Jvm.Cond.static ({ cls := "VersionSolverModel", name := "order", desc := "(I)I" } : Jvm.MethodName)) ∈ lw_all := lw_g (lw_at lw_m9 127 rfl) rfl
theorem q2137 : (Jvm.Cond.code ({ cls := "VersionSolverModel", name := "order", desc := "(I)I" } : Jvm.MethodName) prog_24_method_11_code (1 : Nat) (Option.some Jvm.ClassFile.FieldType.int)) ∈ lw_all := lw_g (lw_at lw_m9 128 rfl) rfl
theorem q2138 : (Jvm.Cond.methodLink "VersionSolverModel" (97 : Nat) ({ cls := "VersionSolverModel", name := "rulesOf", desc := "(II)I" } : Jvm.MethodName)) ∈ lw_all := lw_g (lw_at lw_m9 129 rfl) rfl
theorem q2139 : (Jvm.Cond.privateMethod ({ cls := "VersionSolverModel", name := "rulesOf", desc := "(II)I" } : Jvm.MethodName)) ∈ lw_tbl := lw_at lw_m9 130 rfl
theorem q2140 : (Jvm.Cond.instanceMethod ({ cls := "VersionSolverModel", name := "rulesOf", desc := "(II)I" } : Jvm.MethodName)) ∈ lw_all := lw_g (lw_at lw_m9 131 rfl) rfl
theorem q2141 : (Jvm.Cond.code ({ cls := "VersionSolverModel", name := "rulesOf", desc := "(II)I" } : Jvm.MethodName) prog_24_method_18_code (5 : Nat) (Option.some Jvm.ClassFile.FieldType.int)) ∈ lw_all := lw_g (lw_at lw_m9 132 rfl) rfl
theorem q2142 : (Jvm.Cond.methodLink "VersionSolverModel" (87 : Nat) ({ cls := "VersionSolverModel", name := "ofRule", desc := "(II)I" } : Jvm.MethodName)) ∈ lw_all := lw_g (lw_at lw_m9 133 rfl) rfl
theorem q2143 : (Jvm.Cond.privateMethod ({ cls := "VersionSolverModel", name := "ofRule", desc := "(II)I" } : Jvm.MethodName)) ∈ lw_tbl := lw_at lw_m9 134 rfl
theorem q2144 : (Jvm.Cond.instanceMethod ({ cls := "VersionSolverModel", name := "ofRule", desc := "(II)I" } : Jvm.MethodName)) ∈ lw_all := lw_g (lw_at lw_m9 135 rfl) rfl
theorem q2145 : (Jvm.Cond.code ({ cls := "VersionSolverModel", name := "ofRule", desc := "(II)I" } : Jvm.MethodName) prog_24_method_4_code (3 : Nat) (Option.some Jvm.ClassFile.FieldType.int)) ∈ lw_all := lw_g (lw_at lw_m9 136 rfl) rfl
theorem q2147 : (Jvm.Cond.instanceMethod ({ cls := "VersionSolverModel", name := "covers", desc := "(II)I" } : Jvm.MethodName)) ∈ lw_all := lw_g (lw_at lw_m9 138 rfl) rfl
theorem q2148 : (Jvm.Cond.selects "VersionSolverModel" ({ cls := "VersionSolverModel", name := "covers", desc := "(II)I" } : Jvm.MethodName) ({ cls := "VersionSolverModel", name := "covers", desc := "(II)I" } : Jvm.MethodName)) ∈ lw_all := lw_g (lw_at lw_m9 139 rfl) rfl
theorem q2149 : (Jvm.Cond.code ({ cls := "VersionSolverModel", name := "covers", desc := "(II)I" } : Jvm.MethodName) prog_24_method_20_code (3 : Nat) (Option.some Jvm.ClassFile.FieldType.int)) ∈ lw_all := lw_g (lw_at lw_m9 140 rfl) rfl
theorem q2150 : (Jvm.Cond.methodLink "VersionSolverModel" (100 : Nat) ({ cls := "VersionSolverModel", name := "isRange", desc := "(I)Z" } : Jvm.MethodName)) ∈ lw_all := lw_g (lw_at lw_m9 141 rfl) rfl
theorem q2151 : (Jvm.Cond.static ({ cls := "VersionSolverModel", name := "isRange", desc := "(I)Z" } : Jvm.MethodName)) ∈ lw_all := lw_g (lw_at lw_m9 142 rfl) rfl
theorem q2152 : (Jvm.Cond.code ({ cls := "VersionSolverModel", name := "isRange", desc := "(I)Z" } : Jvm.MethodName) prog_24_method_8_code (1 : Nat) (Option.some Jvm.ClassFile.FieldType.boolean)) ∈ lw_all := lw_g (lw_at lw_m9 143 rfl) rfl
theorem q2153 : (Jvm.Cond.methodLink "VersionSolverModel" (103 : Nat) ({ cls := "VersionSolverModel", name := "coversOf", desc := "(II)I" } : Jvm.MethodName)) ∈ lw_all := lw_g (lw_at lw_m9 144 rfl) rfl
theorem q2154 : (Jvm.Cond.privateMethod ({ cls := "VersionSolverModel", name := "coversOf", desc := "(II)I" } : Jvm.MethodName)) ∈ lw_tbl := lw_at lw_m9 145 rfl
theorem q2155 : (Jvm.Cond.instanceMethod ({ cls := "VersionSolverModel", name := "coversOf", desc := "(II)I" } : Jvm.MethodName)) ∈ lw_all := lw_g (lw_at lw_m9 146 rfl) rfl
theorem q2156 : (Jvm.Cond.code ({ cls := "VersionSolverModel", name := "coversOf", desc := "(II)I" } : Jvm.MethodName) prog_24_method_13_code (5 : Nat) (Option.some Jvm.ClassFile.FieldType.int)) ∈ lw_all := lw_g (lw_at lw_m9 147 rfl) rfl
theorem q2157 : (Jvm.Cond.methodLink "VersionSolverModel" (78 : Nat) ({ cls := "VersionSolverModel", name := "isIn", desc := "(III)Z" } : Jvm.MethodName)) ∈ lw_all := lw_g (lw_at lw_m9 148 rfl) rfl
theorem q2158 : (Jvm.Cond.privateMethod ({ cls := "VersionSolverModel", name := "isIn", desc := "(III)Z" } : Jvm.MethodName)) ∈ lw_tbl := lw_at lw_m9 149 rfl
theorem q2159 : (Jvm.Cond.instanceMethod ({ cls := "VersionSolverModel", name := "isIn", desc := "(III)Z" } : Jvm.MethodName)) ∈ lw_all := lw_g (lw_at lw_m9 150 rfl) rfl
theorem q2160 : (Jvm.Cond.code ({ cls := "VersionSolverModel", name := "isIn", desc := "(III)Z" } : Jvm.MethodName) prog_24_method_12_code (8 : Nat) (Option.some Jvm.ClassFile.FieldType.boolean)) ∈ lw_all := lw_g (lw_at lw_m9 151 rfl) rfl
theorem q2162 : (Jvm.Cond.instanceMethod ({ cls := "VersionSolverModel", name := "latest", desc := "(II)I" } : Jvm.MethodName)) ∈ lw_all := lw_g (lw_at lw_m9 153 rfl) rfl
theorem q2163 : (Jvm.Cond.selects "VersionSolverModel" ({ cls := "VersionSolverModel", name := "latest", desc := "(II)I" } : Jvm.MethodName) ({ cls := "VersionSolverModel", name := "latest", desc := "(II)I" } : Jvm.MethodName)) ∈ lw_all := lw_g (lw_at lw_m9 154 rfl) rfl
theorem q2164 : (Jvm.Cond.code ({ cls := "VersionSolverModel", name := "latest", desc := "(II)I" } : Jvm.MethodName) prog_24_method_21_code (6 : Nat) (Option.some Jvm.ClassFile.FieldType.int)) ∈ lw_all := lw_g (lw_at lw_m9 155 rfl) rfl
theorem q2166 : (Jvm.Cond.instanceMethod ({ cls := "VersionSolverModel", name := "want", desc := "(II)I" } : Jvm.MethodName)) ∈ lw_all := lw_g (lw_at lw_m9 157 rfl) rfl
theorem q2167 : (Jvm.Cond.selects "VersionSolverModel" ({ cls := "VersionSolverModel", name := "want", desc := "(II)I" } : Jvm.MethodName) ({ cls := "VersionSolverModel", name := "want", desc := "(II)I" } : Jvm.MethodName)) ∈ lw_all := lw_g (lw_at lw_m9 158 rfl) rfl
theorem q2168 : (Jvm.Cond.code ({ cls := "VersionSolverModel", name := "want", desc := "(II)I" } : Jvm.MethodName) prog_24_method_26_code (3 : Nat) (Option.some Jvm.ClassFile.FieldType.int)) ∈ lw_all := lw_g (lw_at lw_m9 159 rfl) rfl
theorem q2169 : (Jvm.Cond.methodLink "VersionSolverModel" (110 : Nat) ({ cls := "VersionSolverModel", name := "wants", desc := "(II)I" } : Jvm.MethodName)) ∈ lw_all := lw_g (lw_at lw_m9 160 rfl) rfl
theorem q2170 : (Jvm.Cond.privateMethod ({ cls := "VersionSolverModel", name := "wants", desc := "(II)I" } : Jvm.MethodName)) ∈ lw_tbl := lw_at lw_m9 161 rfl
theorem q2171 : (Jvm.Cond.instanceMethod ({ cls := "VersionSolverModel", name := "wants", desc := "(II)I" } : Jvm.MethodName)) ∈ lw_all := lw_g (lw_at lw_m9 162 rfl) rfl
theorem q2172 : (Jvm.Cond.code ({ cls := "VersionSolverModel", name := "wants", desc := "(II)I" } : Jvm.MethodName) prog_24_method_23_code (3 : Nat) (Option.some Jvm.ClassFile.FieldType.int)) ∈ lw_all := lw_g (lw_at lw_m9 163 rfl) rfl
theorem q2173 : (Jvm.Cond.methodLink "VersionSolverModel" (106 : Nat) ({ cls := "VersionSolverModel", name := "adds", desc := "(IIIIII)I" } : Jvm.MethodName)) ∈ lw_all := lw_g (lw_at lw_m9 164 rfl) rfl
theorem q2174 : (Jvm.Cond.privateMethod ({ cls := "VersionSolverModel", name := "adds", desc := "(IIIIII)I" } : Jvm.MethodName)) ∈ lw_tbl := lw_at lw_m9 165 rfl
theorem q2175 : (Jvm.Cond.instanceMethod ({ cls := "VersionSolverModel", name := "adds", desc := "(IIIIII)I" } : Jvm.MethodName)) ∈ lw_all := lw_g (lw_at lw_m9 166 rfl) rfl
theorem q2176 : (Jvm.Cond.code ({ cls := "VersionSolverModel", name := "adds", desc := "(IIIIII)I" } : Jvm.MethodName) prog_24_method_22_code (8 : Nat) (Option.some Jvm.ClassFile.FieldType.int)) ∈ lw_all := lw_g (lw_at lw_m9 167 rfl) rfl
theorem q2177 : (Jvm.Cond.methodLink "VersionSolverModel" (113 : Nat) ({ cls := "VersionSolverModel", name := "done", desc := "(I)I" } : Jvm.MethodName)) ∈ lw_all := lw_g (lw_at lw_m9 168 rfl) rfl
theorem q2178 : (Jvm.Cond.privateMethod ({ cls := "VersionSolverModel", name := "done", desc := "(I)I" } : Jvm.MethodName)) ∈ lw_tbl := lw_at lw_m9 169 rfl
theorem q2179 : (Jvm.Cond.instanceMethod ({ cls := "VersionSolverModel", name := "done", desc := "(I)I" } : Jvm.MethodName)) ∈ lw_all := lw_g (lw_at lw_m9 170 rfl) rfl
theorem q2180 : (Jvm.Cond.code ({ cls := "VersionSolverModel", name := "done", desc := "(I)I" } : Jvm.MethodName) prog_24_method_25_code (2 : Nat) (Option.some Jvm.ClassFile.FieldType.int)) ∈ lw_all := lw_g (lw_at lw_m9 171 rfl) rfl
theorem q2182 : (Jvm.Cond.instanceMethod ({ cls := "VersionSolverModel", name := "need", desc := "(IIII)I" } : Jvm.MethodName)) ∈ lw_all := lw_g (lw_at lw_m9 173 rfl) rfl
theorem q2183 : (Jvm.Cond.selects "VersionSolverModel" ({ cls := "VersionSolverModel", name := "need", desc := "(IIII)I" } : Jvm.MethodName) ({ cls := "VersionSolverModel", name := "need", desc := "(IIII)I" } : Jvm.MethodName)) ∈ lw_all := lw_g (lw_at lw_m9 174 rfl) rfl
theorem q2184 : (Jvm.Cond.code ({ cls := "VersionSolverModel", name := "need", desc := "(IIII)I" } : Jvm.MethodName) prog_24_method_27_code (5 : Nat) (Option.some Jvm.ClassFile.FieldType.int)) ∈ lw_all := lw_g (lw_at lw_m9 175 rfl) rfl
theorem q2185 : (Jvm.Cond.methodLink "VersionSolverModel" (116 : Nat) ({ cls := "VersionSolverModel", name := "holdsOther", desc := "(IIIII)I" } : Jvm.MethodName)) ∈ lw_all := lw_g (lw_at lw_m9 176 rfl) rfl
theorem q2186 : (Jvm.Cond.privateMethod ({ cls := "VersionSolverModel", name := "holdsOther", desc := "(IIIII)I" } : Jvm.MethodName)) ∈ lw_tbl := lw_at lw_m9 177 rfl
theorem q2187 : (Jvm.Cond.instanceMethod ({ cls := "VersionSolverModel", name := "holdsOther", desc := "(IIIII)I" } : Jvm.MethodName)) ∈ lw_all := lw_g (lw_at lw_m9 178 rfl) rfl
theorem q2188 : (Jvm.Cond.code ({ cls := "VersionSolverModel", name := "holdsOther", desc := "(IIIII)I" } : Jvm.MethodName) prog_24_method_24_code (6 : Nat) (Option.some Jvm.ClassFile.FieldType.int)) ∈ lw_all := lw_g (lw_at lw_m9 179 rfl) rfl
theorem q2190 : (Jvm.Cond.instanceMethod ({ cls := "VersionSolverModel", name := "bar", desc := "(IIII)I" } : Jvm.MethodName)) ∈ lw_all := lw_g (lw_at lw_m9 181 rfl) rfl
theorem q2191 : (Jvm.Cond.selects "VersionSolverModel" ({ cls := "VersionSolverModel", name := "bar", desc := "(IIII)I" } : Jvm.MethodName) ({ cls := "VersionSolverModel", name := "bar", desc := "(IIII)I" } : Jvm.MethodName)) ∈ lw_all := lw_g (lw_at lw_m9 182 rfl) rfl
theorem q2192 : (Jvm.Cond.code ({ cls := "VersionSolverModel", name := "bar", desc := "(IIII)I" } : Jvm.MethodName) prog_24_method_28_code (5 : Nat) (Option.some Jvm.ClassFile.FieldType.int)) ∈ lw_all := lw_g (lw_at lw_m9 183 rfl) rfl
theorem q2194 : (Jvm.Cond.instanceMethod ({ cls := "VersionSolverModel", name := "drop", desc := "()I" } : Jvm.MethodName)) ∈ lw_all := lw_g (lw_at lw_m9 185 rfl) rfl
theorem q2195 : (Jvm.Cond.selects "VersionSolverModel" ({ cls := "VersionSolverModel", name := "drop", desc := "()I" } : Jvm.MethodName) ({ cls := "VersionSolverModel", name := "drop", desc := "()I" } : Jvm.MethodName)) ∈ lw_all := lw_g (lw_at lw_m9 186 rfl) rfl
theorem q2196 : (Jvm.Cond.code ({ cls := "VersionSolverModel", name := "drop", desc := "()I" } : Jvm.MethodName) prog_24_method_29_code (1 : Nat) (Option.some Jvm.ClassFile.FieldType.int)) ∈ lw_all := lw_g (lw_at lw_m9 187 rfl) rfl
theorem q2198 : (Jvm.Cond.instanceMethod ({ cls := "VersionSolverModel", name := "rule", desc := "(II)I" } : Jvm.MethodName)) ∈ lw_all := lw_g (lw_at lw_m9 189 rfl) rfl
theorem q2199 : (Jvm.Cond.selects "VersionSolverModel" ({ cls := "VersionSolverModel", name := "rule", desc := "(II)I" } : Jvm.MethodName) ({ cls := "VersionSolverModel", name := "rule", desc := "(II)I" } : Jvm.MethodName)) ∈ lw_all := lw_g (lw_at lw_m9 190 rfl) rfl
theorem q2200 : (Jvm.Cond.code ({ cls := "VersionSolverModel", name := "rule", desc := "(II)I" } : Jvm.MethodName) prog_24_method_32_code (4 : Nat) (Option.some Jvm.ClassFile.FieldType.int)) ∈ lw_all := lw_g (lw_at lw_m9 191 rfl) rfl
theorem q2201 : (Jvm.Cond.methodLink "VersionSolverModel" (123 : Nat) ({ cls := "VersionSolverModel", name := "isRule", desc := "(I)Z" } : Jvm.MethodName)) ∈ lw_all := lw_g (lw_at lw_m9 192 rfl) rfl
theorem q2202 : (Jvm.Cond.privateMethod ({ cls := "VersionSolverModel", name := "isRule", desc := "(I)Z" } : Jvm.MethodName)) ∈ lw_tbl := lw_at lw_m9 193 rfl
theorem q2203 : (Jvm.Cond.instanceMethod ({ cls := "VersionSolverModel", name := "isRule", desc := "(I)Z" } : Jvm.MethodName)) ∈ lw_all := lw_g (lw_at lw_m9 194 rfl) rfl
theorem q2204 : (Jvm.Cond.code ({ cls := "VersionSolverModel", name := "isRule", desc := "(I)Z" } : Jvm.MethodName) prog_24_method_7_code (2 : Nat) (Option.some Jvm.ClassFile.FieldType.boolean)) ∈ lw_all := lw_g (lw_at lw_m9 195 rfl) rfl
theorem q2205 : (Jvm.Cond.methodLink "VersionSolverModel" (126 : Nat) ({ cls := "VersionSolverModel", name := "learnedMany", desc := "(I)I" } : Jvm.MethodName)) ∈ lw_all := lw_g (lw_at lw_m9 196 rfl) rfl
theorem q2206 : (Jvm.Cond.privateMethod ({ cls := "VersionSolverModel", name := "learnedMany", desc := "(I)I" } : Jvm.MethodName)) ∈ lw_tbl := lw_at lw_m9 197 rfl
theorem q2207 : (Jvm.Cond.instanceMethod ({ cls := "VersionSolverModel", name := "learnedMany", desc := "(I)I" } : Jvm.MethodName)) ∈ lw_all := lw_g (lw_at lw_m9 198 rfl) rfl
theorem q2208 : (Jvm.Cond.code ({ cls := "VersionSolverModel", name := "learnedMany", desc := "(I)I" } : Jvm.MethodName) prog_24_method_31_code (4 : Nat) (Option.some Jvm.ClassFile.FieldType.int)) ∈ lw_all := lw_g (lw_at lw_m9 199 rfl) rfl
theorem q2209 : (Jvm.Cond.methodLink "VersionSolverModel" (120 : Nat) ({ cls := "VersionSolverModel", name := "learnedState", desc := "(II)I" } : Jvm.MethodName)) ∈ lw_all := lw_g (lw_at lw_m9 200 rfl) rfl
theorem q2210 : (Jvm.Cond.privateMethod ({ cls := "VersionSolverModel", name := "learnedState", desc := "(II)I" } : Jvm.MethodName)) ∈ lw_tbl := lw_at lw_m9 201 rfl
theorem q2211 : (Jvm.Cond.instanceMethod ({ cls := "VersionSolverModel", name := "learnedState", desc := "(II)I" } : Jvm.MethodName)) ∈ lw_all := lw_g (lw_at lw_m9 202 rfl) rfl
theorem q2212 : (Jvm.Cond.code ({ cls := "VersionSolverModel", name := "learnedState", desc := "(II)I" } : Jvm.MethodName) prog_24_method_30_code (5 : Nat) (Option.some Jvm.ClassFile.FieldType.int)) ∈ lw_all := lw_g (lw_at lw_m9 203 rfl) rfl
theorem q2214 : (Jvm.Cond.instanceMethod ({ cls := "VersionSolverModel", name := "learned", desc := "(II)I" } : Jvm.MethodName)) ∈ lw_all := lw_g (lw_at lw_m9 205 rfl) rfl
theorem q2215 : (Jvm.Cond.selects "VersionSolverModel" ({ cls := "VersionSolverModel", name := "learned", desc := "(II)I" } : Jvm.MethodName) ({ cls := "VersionSolverModel", name := "learned", desc := "(II)I" } : Jvm.MethodName)) ∈ lw_all := lw_g (lw_at lw_m9 206 rfl) rfl
theorem q2216 : (Jvm.Cond.code ({ cls := "VersionSolverModel", name := "learned", desc := "(II)I" } : Jvm.MethodName) prog_24_method_33_code (4 : Nat) (Option.some Jvm.ClassFile.FieldType.int)) ∈ lw_all := lw_g (lw_at lw_m9 207 rfl) rfl
theorem q2218 : (Jvm.Cond.instanceMethod ({ cls := "VersionSolverModel", name := "states", desc := "(I)I" } : Jvm.MethodName)) ∈ lw_all := lw_g (lw_at lw_m9 209 rfl) rfl
theorem q2219 : (Jvm.Cond.selects "VersionSolverModel" ({ cls := "VersionSolverModel", name := "states", desc := "(I)I" } : Jvm.MethodName) ({ cls := "VersionSolverModel", name := "states", desc := "(I)I" } : Jvm.MethodName)) ∈ lw_all := lw_g (lw_at lw_m9 210 rfl) rfl
theorem q2220 : (Jvm.Cond.code ({ cls := "VersionSolverModel", name := "states", desc := "(I)I" } : Jvm.MethodName) prog_24_method_44_code (2 : Nat) (Option.some Jvm.ClassFile.FieldType.int)) ∈ lw_all := lw_g (lw_at lw_m9 211 rfl) rfl
theorem q2221 : (Jvm.Cond.methodLink "VersionSolverModel" (158 : Nat) ({ cls := "VersionSolverModel", name := "goesAll", desc := "()V" } : Jvm.MethodName)) ∈ lw_all := lw_g (lw_at lw_m9 212 rfl) rfl
theorem q2222 : (Jvm.Cond.privateMethod ({ cls := "VersionSolverModel", name := "goesAll", desc := "()V" } : Jvm.MethodName)) ∈ lw_tbl := lw_at lw_m9 213 rfl
theorem q2223 : (Jvm.Cond.instanceMethod ({ cls := "VersionSolverModel", name := "goesAll", desc := "()V" } : Jvm.MethodName)) ∈ lw_all := lw_g (lw_at lw_m9 214 rfl) rfl
theorem q2224 : (Jvm.Cond.code ({ cls := "VersionSolverModel", name := "goesAll", desc := "()V" } : Jvm.MethodName) prog_24_method_40_code (1 : Nat) (Option.none : Option Jvm.ClassFile.FieldType)) ∈ lw_all := lw_g (lw_at lw_m9 215 rfl) rfl
theorem q2225 : (Jvm.Cond.methodLink "VersionSolverModel" (152 : Nat) ({ cls := "VersionSolverModel", name := "goes", desc := "(I)V" } : Jvm.MethodName)) ∈ lw_all := lw_g (lw_at lw_m9 216 rfl) rfl
theorem q2226 : (Jvm.Cond.privateMethod ({ cls := "VersionSolverModel", name := "goes", desc := "(I)V" } : Jvm.MethodName)) ∈ lw_tbl := lw_at lw_m9 217 rfl
theorem q2227 : (Jvm.Cond.instanceMethod ({ cls := "VersionSolverModel", name := "goes", desc := "(I)V" } : Jvm.MethodName)) ∈ lw_all := lw_g (lw_at lw_m9 218 rfl) rfl
theorem q2228 : (Jvm.Cond.code ({ cls := "VersionSolverModel", name := "goes", desc := "(I)V" } : Jvm.MethodName) prog_24_method_39_code (3 : Nat) (Option.none : Option Jvm.ClassFile.FieldType)) ∈ lw_all := lw_g (lw_at lw_m9 219 rfl) rfl
theorem q2229 : (Jvm.Cond.methodLink "VersionSolverModel" (146 : Nat) ({ cls := "VersionSolverModel", name := "allStates", desc := "(I)I" } : Jvm.MethodName)) ∈ lw_all := lw_g (lw_at lw_m9 220 rfl) rfl
theorem q2230 : (Jvm.Cond.privateMethod ({ cls := "VersionSolverModel", name := "allStates", desc := "(I)I" } : Jvm.MethodName)) ∈ lw_tbl := lw_at lw_m9 221 rfl
theorem q2231 : (Jvm.Cond.instanceMethod ({ cls := "VersionSolverModel", name := "allStates", desc := "(I)I" } : Jvm.MethodName)) ∈ lw_all := lw_g (lw_at lw_m9 222 rfl) rfl
theorem q2232 : (Jvm.Cond.code ({ cls := "VersionSolverModel", name := "allStates", desc := "(I)I" } : Jvm.MethodName) prog_24_method_34_code (2 : Nat) (Option.some Jvm.ClassFile.FieldType.int)) ∈ lw_all := lw_g (lw_at lw_m9 223 rfl) rfl
theorem q2233 : (Jvm.Cond.methodLink "VersionSolverModel" (149 : Nat) ({ cls := "VersionSolverModel", name := "follows", desc := "()V" } : Jvm.MethodName)) ∈ lw_all := lw_g (lw_at lw_m9 224 rfl) rfl
theorem q2234 : (Jvm.Cond.privateMethod ({ cls := "VersionSolverModel", name := "follows", desc := "()V" } : Jvm.MethodName)) ∈ lw_tbl := lw_at lw_m9 225 rfl
theorem q2235 : (Jvm.Cond.instanceMethod ({ cls := "VersionSolverModel", name := "follows", desc := "()V" } : Jvm.MethodName)) ∈ lw_all := lw_g (lw_at lw_m9 226 rfl) rfl
theorem q2236 : (Jvm.Cond.code ({ cls := "VersionSolverModel", name := "follows", desc := "()V" } : Jvm.MethodName) prog_24_method_38_code (4 : Nat) (Option.none : Option Jvm.ClassFile.FieldType)) ∈ lw_all := lw_g (lw_at lw_m9 227 rfl) rfl
theorem q2237 : (Jvm.Cond.methodLink "VersionSolverModel" (143 : Nat) ({ cls := "VersionSolverModel", name := "applies", desc := "(I)V" } : Jvm.MethodName)) ∈ lw_all := lw_g (lw_at lw_m9 228 rfl) rfl
theorem q2238 : (Jvm.Cond.privateMethod ({ cls := "VersionSolverModel", name := "applies", desc := "(I)V" } : Jvm.MethodName)) ∈ lw_tbl := lw_at lw_m9 229 rfl
theorem q2239 : (Jvm.Cond.instanceMethod ({ cls := "VersionSolverModel", name := "applies", desc := "(I)V" } : Jvm.MethodName)) ∈ lw_all := lw_g (lw_at lw_m9 230 rfl) rfl
theorem q2240 : (Jvm.Cond.code ({ cls := "VersionSolverModel", name := "applies", desc := "(I)V" } : Jvm.MethodName) prog_24_method_36_code (7 : Nat) (Option.none : Option Jvm.ClassFile.FieldType)) ∈ lw_all := lw_g (lw_at lw_m9 231 rfl) rfl
theorem q2241 : (Jvm.Cond.methodLink "VersionSolverModel" (135 : Nat) ({ cls := "VersionSolverModel", name := "leaves", desc := "(III)V" } : Jvm.MethodName)) ∈ lw_all := lw_g (lw_at lw_m9 232 rfl) rfl
theorem q2242 : (Jvm.Cond.privateMethod ({ cls := "VersionSolverModel", name := "leaves", desc := "(III)V" } : Jvm.MethodName)) ∈ lw_tbl := lw_at lw_m9 233 rfl
theorem q2243 : (Jvm.Cond.instanceMethod ({ cls := "VersionSolverModel", name := "leaves", desc := "(III)V" } : Jvm.MethodName)) ∈ lw_all := lw_g (lw_at lw_m9 234 rfl) rfl
theorem q2244 : (Jvm.Cond.code ({ cls := "VersionSolverModel", name := "leaves", desc := "(III)V" } : Jvm.MethodName) prog_24_method_35_code (5 : Nat) (Option.none : Option Jvm.ClassFile.FieldType)) ∈ lw_all := lw_g (lw_at lw_m9 235 rfl) rfl
theorem q2245 : (Jvm.Cond.methodLink "VersionSolverModel" (139 : Nat) ({ cls := "VersionSolverModel", name := "appliesLearned", desc := "(I)V" } : Jvm.MethodName)) ∈ lw_all := lw_g (lw_at lw_m9 236 rfl) rfl
theorem q2246 : (Jvm.Cond.privateMethod ({ cls := "VersionSolverModel", name := "appliesLearned", desc := "(I)V" } : Jvm.MethodName)) ∈ lw_tbl := lw_at lw_m9 237 rfl
theorem q2247 : (Jvm.Cond.instanceMethod ({ cls := "VersionSolverModel", name := "appliesLearned", desc := "(I)V" } : Jvm.MethodName)) ∈ lw_all := lw_g (lw_at lw_m9 238 rfl) rfl
theorem q2248 : (Jvm.Cond.code ({ cls := "VersionSolverModel", name := "appliesLearned", desc := "(I)V" } : Jvm.MethodName) prog_24_method_37_code (5 : Nat) (Option.none : Option Jvm.ClassFile.FieldType)) ∈ lw_all := lw_g (lw_at lw_m9 239 rfl) rfl
theorem q2250 : (Jvm.Cond.instanceMethod ({ cls := "VersionSolverModel", name := "steps", desc := "()I" } : Jvm.MethodName)) ∈ lw_all := lw_g (lw_at lw_m10 1 rfl) rfl
theorem q2251 : (Jvm.Cond.selects "VersionSolverModel" ({ cls := "VersionSolverModel", name := "steps", desc := "()I" } : Jvm.MethodName) ({ cls := "VersionSolverModel", name := "steps", desc := "()I" } : Jvm.MethodName)) ∈ lw_all := lw_g (lw_at lw_m10 2 rfl) rfl
theorem q2252 : (Jvm.Cond.code ({ cls := "VersionSolverModel", name := "steps", desc := "()I" } : Jvm.MethodName) prog_24_method_45_code (1 : Nat) (Option.some Jvm.ClassFile.FieldType.int)) ∈ lw_all := lw_g (lw_at lw_m10 3 rfl) rfl
theorem q2254 : (Jvm.Cond.instanceMethod ({ cls := "VersionSolverModel", name := "step", desc := "(II)I" } : Jvm.MethodName)) ∈ lw_all := lw_g (lw_at lw_m10 5 rfl) rfl
theorem q2255 : (Jvm.Cond.selects "VersionSolverModel" ({ cls := "VersionSolverModel", name := "step", desc := "(II)I" } : Jvm.MethodName) ({ cls := "VersionSolverModel", name := "step", desc := "(II)I" } : Jvm.MethodName)) ∈ lw_all := lw_g (lw_at lw_m10 6 rfl) rfl
theorem q2256 : (Jvm.Cond.code ({ cls := "VersionSolverModel", name := "step", desc := "(II)I" } : Jvm.MethodName) prog_24_method_47_code (3 : Nat) (Option.some Jvm.ClassFile.FieldType.int)) ∈ lw_all := lw_g (lw_at lw_m10 7 rfl) rfl
theorem q2257 : (Jvm.Cond.methodLink "VersionSolverModel" (161 : Nat) ({ cls := "VersionSolverModel", name := "restsOn", desc := "(I)I" } : Jvm.MethodName)) ∈ lw_all := lw_g (lw_at lw_m10 8 rfl) rfl
theorem q2258 : (Jvm.Cond.privateMethod ({ cls := "VersionSolverModel", name := "restsOn", desc := "(I)I" } : Jvm.MethodName)) ∈ lw_tbl := lw_at lw_m10 9 rfl
theorem q2259 : (Jvm.Cond.instanceMethod ({ cls := "VersionSolverModel", name := "restsOn", desc := "(I)I" } : Jvm.MethodName)) ∈ lw_all := lw_g (lw_at lw_m10 10 rfl) rfl
theorem q2260 : (Jvm.Cond.code ({ cls := "VersionSolverModel", name := "restsOn", desc := "(I)I" } : Jvm.MethodName) prog_24_method_46_code (4 : Nat) (Option.some Jvm.ClassFile.FieldType.int)) ∈ lw_all := lw_g (lw_at lw_m10 11 rfl) rfl
theorem q2261 : (Jvm.Cond.methodLink "VersionSolverModel" (155 : Nat) ({ cls := "VersionSolverModel", name := "rests", desc := "(II)Z" } : Jvm.MethodName)) ∈ lw_all := lw_g (lw_at lw_m10 12 rfl) rfl
theorem q2262 : (Jvm.Cond.privateMethod ({ cls := "VersionSolverModel", name := "rests", desc := "(II)Z" } : Jvm.MethodName)) ∈ lw_tbl := lw_at lw_m10 13 rfl
theorem q2263 : (Jvm.Cond.instanceMethod ({ cls := "VersionSolverModel", name := "rests", desc := "(II)Z" } : Jvm.MethodName)) ∈ lw_all := lw_g (lw_at lw_m10 14 rfl) rfl
theorem q2264 : (Jvm.Cond.code ({ cls := "VersionSolverModel", name := "rests", desc := "(II)Z" } : Jvm.MethodName) prog_24_method_41_code (6 : Nat) (Option.some Jvm.ClassFile.FieldType.boolean)) ∈ lw_all := lw_g (lw_at lw_m10 15 rfl) rfl
theorem q2266 : (Jvm.Cond.instanceMethod ({ cls := "VersionSolverModel", name := "cause", desc := "(II)I" } : Jvm.MethodName)) ∈ lw_all := lw_g (lw_at lw_m10 17 rfl) rfl
theorem q2267 : (Jvm.Cond.selects "VersionSolverModel" ({ cls := "VersionSolverModel", name := "cause", desc := "(II)I" } : Jvm.MethodName) ({ cls := "VersionSolverModel", name := "cause", desc := "(II)I" } : Jvm.MethodName)) ∈ lw_all := lw_g (lw_at lw_m10 18 rfl) rfl
theorem q2268 : (Jvm.Cond.code ({ cls := "VersionSolverModel", name := "cause", desc := "(II)I" } : Jvm.MethodName) prog_24_method_49_code (4 : Nat) (Option.some Jvm.ClassFile.FieldType.int)) ∈ lw_all := lw_g (lw_at lw_m10 19 rfl) rfl
theorem q2269 : (Jvm.Cond.methodLink "VersionSolverModel" (164 : Nat) ({ cls := "VersionSolverModel", name := "isState", desc := "(II)Z" } : Jvm.MethodName)) ∈ lw_all := lw_g (lw_at lw_m10 20 rfl) rfl
theorem q2270 : (Jvm.Cond.privateMethod ({ cls := "VersionSolverModel", name := "isState", desc := "(II)Z" } : Jvm.MethodName)) ∈ lw_tbl := lw_at lw_m10 21 rfl
theorem q2271 : (Jvm.Cond.instanceMethod ({ cls := "VersionSolverModel", name := "isState", desc := "(II)Z" } : Jvm.MethodName)) ∈ lw_all := lw_g (lw_at lw_m10 22 rfl) rfl
theorem q2272 : (Jvm.Cond.code ({ cls := "VersionSolverModel", name := "isState", desc := "(II)Z" } : Jvm.MethodName) prog_24_method_48_code (3 : Nat) (Option.some Jvm.ClassFile.FieldType.boolean)) ∈ lw_all := lw_g (lw_at lw_m10 23 rfl) rfl
theorem q2274 : (Jvm.Cond.instanceMethod ({ cls := "VersionSolverModel", name := "conflict", desc := "()I" } : Jvm.MethodName)) ∈ lw_all := lw_g (lw_at lw_m10 25 rfl) rfl
theorem q2275 : (Jvm.Cond.selects "VersionSolverModel" ({ cls := "VersionSolverModel", name := "conflict", desc := "()I" } : Jvm.MethodName) ({ cls := "VersionSolverModel", name := "conflict", desc := "()I" } : Jvm.MethodName)) ∈ lw_all := lw_g (lw_at lw_m10 26 rfl) rfl
theorem q2276 : (Jvm.Cond.code ({ cls := "VersionSolverModel", name := "conflict", desc := "()I" } : Jvm.MethodName) prog_24_method_50_code (1 : Nat) (Option.some Jvm.ClassFile.FieldType.int)) ∈ lw_all := lw_g (lw_at lw_m10 27 rfl) rfl
theorem q2278 : (Jvm.Cond.instanceMethod ({ cls := "VersionSolverModel", name := "proof", desc := "()J" } : Jvm.MethodName)) ∈ lw_all := lw_g (lw_at lw_m10 29 rfl) rfl
theorem q2279 : (Jvm.Cond.selects "VersionSolverModel" ({ cls := "VersionSolverModel", name := "proof", desc := "()J" } : Jvm.MethodName) ({ cls := "VersionSolverModel", name := "proof", desc := "()J" } : Jvm.MethodName)) ∈ lw_all := lw_g (lw_at lw_m10 30 rfl) rfl
theorem q2280 : (Jvm.Cond.code ({ cls := "VersionSolverModel", name := "proof", desc := "()J" } : Jvm.MethodName) prog_24_method_51_code (1 : Nat) (Option.some Jvm.ClassFile.FieldType.long)) ∈ lw_all := lw_g (lw_at lw_m10 31 rfl) rfl
theorem q2281 : (Jvm.Cond.methodLink "VersionSolverModel" (167 : Nat) ({ cls := "VersionSolverModel", name := "proofOf", desc := "()J" } : Jvm.MethodName)) ∈ lw_all := lw_g (lw_at lw_m10 32 rfl) rfl
theorem q2282 : (Jvm.Cond.privateMethod ({ cls := "VersionSolverModel", name := "proofOf", desc := "()J" } : Jvm.MethodName)) ∈ lw_tbl := lw_at lw_m10 33 rfl
theorem q2283 : (Jvm.Cond.instanceMethod ({ cls := "VersionSolverModel", name := "proofOf", desc := "()J" } : Jvm.MethodName)) ∈ lw_all := lw_g (lw_at lw_m10 34 rfl) rfl
theorem q2284 : (Jvm.Cond.code ({ cls := "VersionSolverModel", name := "proofOf", desc := "()J" } : Jvm.MethodName) prog_24_method_42_code (6 : Nat) (Option.some Jvm.ClassFile.FieldType.long)) ∈ lw_all := lw_g (lw_at lw_m10 35 rfl) rfl
theorem q2286 : (Jvm.Cond.instanceMethod ({ cls := "VersionSolverModel", name := "isProved", desc := "()Z" } : Jvm.MethodName)) ∈ lw_all := lw_g (lw_at lw_m10 37 rfl) rfl
theorem q2287 : (Jvm.Cond.selects "VersionSolverModel" ({ cls := "VersionSolverModel", name := "isProved", desc := "()Z" } : Jvm.MethodName) ({ cls := "VersionSolverModel", name := "isProved", desc := "()Z" } : Jvm.MethodName)) ∈ lw_all := lw_g (lw_at lw_m10 38 rfl) rfl
theorem q2288 : (Jvm.Cond.code ({ cls := "VersionSolverModel", name := "isProved", desc := "()Z" } : Jvm.MethodName) prog_24_method_52_code (1 : Nat) (Option.some Jvm.ClassFile.FieldType.boolean)) ∈ lw_all := lw_g (lw_at lw_m10 39 rfl) rfl
theorem q2290 : (Jvm.Cond.instanceMethod ({ cls := "VersionSolverModel", name := "assume", desc := "(II)I" } : Jvm.MethodName)) ∈ lw_all := lw_g (lw_at lw_m10 41 rfl) rfl
theorem q2291 : (Jvm.Cond.selects "VersionSolverModel" ({ cls := "VersionSolverModel", name := "assume", desc := "(II)I" } : Jvm.MethodName) ({ cls := "VersionSolverModel", name := "assume", desc := "(II)I" } : Jvm.MethodName)) ∈ lw_all := lw_g (lw_at lw_m10 42 rfl) rfl
theorem q2292 : (Jvm.Cond.code ({ cls := "VersionSolverModel", name := "assume", desc := "(II)I" } : Jvm.MethodName) prog_24_method_54_code (3 : Nat) (Option.some Jvm.ClassFile.FieldType.int)) ∈ lw_all := lw_g (lw_at lw_m10 43 rfl) rfl
theorem q2293 : (Jvm.Cond.methodLink "VersionSolverModel" (171 : Nat) ({ cls := "VersionSolverModel", name := "isAssumed", desc := "(I)Z" } : Jvm.MethodName)) ∈ lw_all := lw_g (lw_at lw_m10 44 rfl) rfl
theorem q2294 : (Jvm.Cond.privateMethod ({ cls := "VersionSolverModel", name := "isAssumed", desc := "(I)Z" } : Jvm.MethodName)) ∈ lw_tbl := lw_at lw_m10 45 rfl
theorem q2295 : (Jvm.Cond.instanceMethod ({ cls := "VersionSolverModel", name := "isAssumed", desc := "(I)Z" } : Jvm.MethodName)) ∈ lw_all := lw_g (lw_at lw_m10 46 rfl) rfl
theorem q2296 : (Jvm.Cond.code ({ cls := "VersionSolverModel", name := "isAssumed", desc := "(I)Z" } : Jvm.MethodName) prog_24_method_53_code (3 : Nat) (Option.some Jvm.ClassFile.FieldType.boolean)) ∈ lw_all := lw_g (lw_at lw_m10 47 rfl) rfl
theorem q2298 : (Jvm.Cond.instanceMethod ({ cls := "VersionSolverModel", name := "retract", desc := "()I" } : Jvm.MethodName)) ∈ lw_all := lw_g (lw_at lw_m10 49 rfl) rfl
theorem q2299 : (Jvm.Cond.selects "VersionSolverModel" ({ cls := "VersionSolverModel", name := "retract", desc := "()I" } : Jvm.MethodName) ({ cls := "VersionSolverModel", name := "retract", desc := "()I" } : Jvm.MethodName)) ∈ lw_all := lw_g (lw_at lw_m10 50 rfl) rfl
theorem q2300 : (Jvm.Cond.code ({ cls := "VersionSolverModel", name := "retract", desc := "()I" } : Jvm.MethodName) prog_24_method_55_code (1 : Nat) (Option.some Jvm.ClassFile.FieldType.int)) ∈ lw_all := lw_g (lw_at lw_m10 51 rfl) rfl
theorem q2302 : (Jvm.Cond.instanceMethod ({ cls := "VersionSolverModel", name := "assumption", desc := "(IZ)I" } : Jvm.MethodName)) ∈ lw_all := lw_g (lw_at lw_m10 53 rfl) rfl
theorem q2303 : (Jvm.Cond.selects "VersionSolverModel" ({ cls := "VersionSolverModel", name := "assumption", desc := "(IZ)I" } : Jvm.MethodName) ({ cls := "VersionSolverModel", name := "assumption", desc := "(IZ)I" } : Jvm.MethodName)) ∈ lw_all := lw_g (lw_at lw_m10 54 rfl) rfl
theorem q2304 : (Jvm.Cond.code ({ cls := "VersionSolverModel", name := "assumption", desc := "(IZ)I" } : Jvm.MethodName) prog_24_method_56_code (3 : Nat) (Option.some Jvm.ClassFile.FieldType.int)) ∈ lw_all := lw_g (lw_at lw_m10 55 rfl) rfl
theorem q2306 : (Jvm.Cond.instanceMethod ({ cls := "VersionSolverModel", name := "blamed", desc := "()I" } : Jvm.MethodName)) ∈ lw_all := lw_g (lw_at lw_m10 57 rfl) rfl
theorem q2307 : (Jvm.Cond.selects "VersionSolverModel" ({ cls := "VersionSolverModel", name := "blamed", desc := "()I" } : Jvm.MethodName) ({ cls := "VersionSolverModel", name := "blamed", desc := "()I" } : Jvm.MethodName)) ∈ lw_all := lw_g (lw_at lw_m10 58 rfl) rfl
theorem q2308 : (Jvm.Cond.code ({ cls := "VersionSolverModel", name := "blamed", desc := "()I" } : Jvm.MethodName) prog_24_method_58_code (1 : Nat) (Option.some Jvm.ClassFile.FieldType.int)) ∈ lw_all := lw_g (lw_at lw_m10 59 rfl) rfl
theorem q2309 : (Jvm.Cond.methodLink "VersionSolverModel" (174 : Nat) ({ cls := "VersionSolverModel", name := "blamedOf", desc := "()I" } : Jvm.MethodName)) ∈ lw_all := lw_g (lw_at lw_m10 60 rfl) rfl
theorem q2310 : (Jvm.Cond.privateMethod ({ cls := "VersionSolverModel", name := "blamedOf", desc := "()I" } : Jvm.MethodName)) ∈ lw_tbl := lw_at lw_m10 61 rfl
theorem q2311 : (Jvm.Cond.instanceMethod ({ cls := "VersionSolverModel", name := "blamedOf", desc := "()I" } : Jvm.MethodName)) ∈ lw_all := lw_g (lw_at lw_m10 62 rfl) rfl
theorem q2312 : (Jvm.Cond.code ({ cls := "VersionSolverModel", name := "blamedOf", desc := "()I" } : Jvm.MethodName) prog_24_method_57_code (3 : Nat) (Option.some Jvm.ClassFile.FieldType.int)) ∈ lw_all := lw_g (lw_at lw_m10 63 rfl) rfl
theorem q2314 : (Jvm.Cond.instanceMethod ({ cls := "VersionSolverModel", name := "learn", desc := "()I" } : Jvm.MethodName)) ∈ lw_all := lw_g (lw_at lw_m10 65 rfl) rfl
theorem q2315 : (Jvm.Cond.selects "VersionSolverModel" ({ cls := "VersionSolverModel", name := "learn", desc := "()I" } : Jvm.MethodName) ({ cls := "VersionSolverModel", name := "learn", desc := "()I" } : Jvm.MethodName)) ∈ lw_all := lw_g (lw_at lw_m10 66 rfl) rfl
theorem q2316 : (Jvm.Cond.code ({ cls := "VersionSolverModel", name := "learn", desc := "()I" } : Jvm.MethodName) prog_24_method_59_code (8 : Nat) (Option.some Jvm.ClassFile.FieldType.int)) ∈ lw_all := lw_g (lw_at lw_m10 67 rfl) rfl
theorem q2318 : (Jvm.Cond.instanceMethod ({ cls := "VersionSolverModel", name := "solutions", desc := "()I" } : Jvm.MethodName)) ∈ lw_all := lw_g (lw_at lw_m10 69 rfl) rfl
theorem q2319 : (Jvm.Cond.selects "VersionSolverModel" ({ cls := "VersionSolverModel", name := "solutions", desc := "()I" } : Jvm.MethodName) ({ cls := "VersionSolverModel", name := "solutions", desc := "()I" } : Jvm.MethodName)) ∈ lw_all := lw_g (lw_at lw_m10 70 rfl) rfl
theorem q2320 : (Jvm.Cond.code ({ cls := "VersionSolverModel", name := "solutions", desc := "()I" } : Jvm.MethodName) prog_24_method_68_code (1 : Nat) (Option.some Jvm.ClassFile.FieldType.int)) ∈ lw_all := lw_g (lw_at lw_m10 71 rfl) rfl
theorem q2321 : (Jvm.Cond.constant "VersionSolverModel" (202 : Nat) (1073741823 : Int32)) ∈ lw_all := lw_g (lw_at lw_m10 72 rfl) rfl
theorem q2322 : (Jvm.Cond.constant "VersionSolverModel" (203 : Nat) (1000000 : Int32)) ∈ lw_all := lw_g (lw_at lw_m10 73 rfl) rfl
theorem q2323 : (Jvm.Cond.methodLink "VersionSolverModel" (204 : Nat) ({ cls := "VersionSolverModel", name := "solutionsBy", desc := "(II)I" } : Jvm.MethodName)) ∈ lw_all := lw_g (lw_at lw_m10 74 rfl) rfl
theorem q2324 : (Jvm.Cond.privateMethod ({ cls := "VersionSolverModel", name := "solutionsBy", desc := "(II)I" } : Jvm.MethodName)) ∈ lw_tbl := lw_at lw_m10 75 rfl
theorem q2325 : (Jvm.Cond.instanceMethod ({ cls := "VersionSolverModel", name := "solutionsBy", desc := "(II)I" } : Jvm.MethodName)) ∈ lw_all := lw_g (lw_at lw_m10 76 rfl) rfl
theorem q2326 : (Jvm.Cond.code ({ cls := "VersionSolverModel", name := "solutionsBy", desc := "(II)I" } : Jvm.MethodName) prog_24_method_67_code (4 : Nat) (Option.some Jvm.ClassFile.FieldType.int)) ∈ lw_all := lw_g (lw_at lw_m10 77 rfl) rfl
theorem q2327 : (Jvm.Cond.methodLink "VersionSolverModel" (199 : Nat) ({ cls := "VersionSolverModel", name := "tries", desc := "(III)V" } : Jvm.MethodName)) ∈ lw_all := lw_g (lw_at lw_m10 78 rfl) rfl
theorem q2328 : (Jvm.Cond.privateMethod ({ cls := "VersionSolverModel", name := "tries", desc := "(III)V" } : Jvm.MethodName)) ∈ lw_tbl := lw_at lw_m10 79 rfl
theorem q2329 : (Jvm.Cond.instanceMethod ({ cls := "VersionSolverModel", name := "tries", desc := "(III)V" } : Jvm.MethodName)) ∈ lw_all := lw_g (lw_at lw_m10 80 rfl) rfl
theorem q2330 : (Jvm.Cond.code ({ cls := "VersionSolverModel", name := "tries", desc := "(III)V" } : Jvm.MethodName) prog_24_method_66_code (5 : Nat) (Option.none : Option Jvm.ClassFile.FieldType)) ∈ lw_all := lw_g (lw_at lw_m10 81 rfl) rfl
theorem q2331 : (Jvm.Cond.methodLink "VersionSolverModel" (187 : Nat) ({ cls := "VersionSolverModel", name := "unreached", desc := "(I)I" } : Jvm.MethodName)) ∈ lw_all := lw_g (lw_at lw_m10 82 rfl) rfl
theorem q2332 : (Jvm.Cond.privateMethod ({ cls := "VersionSolverModel", name := "unreached", desc := "(I)I" } : Jvm.MethodName)) ∈ lw_tbl := lw_at lw_m10 83 rfl
theorem q2333 : (Jvm.Cond.instanceMethod ({ cls := "VersionSolverModel", name := "unreached", desc := "(I)I" } : Jvm.MethodName)) ∈ lw_all := lw_g (lw_at lw_m10 84 rfl) rfl
theorem q2334 : (Jvm.Cond.code ({ cls := "VersionSolverModel", name := "unreached", desc := "(I)I" } : Jvm.MethodName) prog_24_method_62_code (7 : Nat) (Option.some Jvm.ClassFile.FieldType.int)) ∈ lw_all := lw_g (lw_at lw_m10 85 rfl) rfl
theorem q2335 : (Jvm.Cond.methodLink "VersionSolverModel" (193 : Nat) ({ cls := "VersionSolverModel", name := "byRank", desc := "(II)I" } : Jvm.MethodName)) ∈ lw_all := lw_g (lw_at lw_m10 86 rfl) rfl
theorem q2336 : (Jvm.Cond.privateMethod ({ cls := "VersionSolverModel", name := "byRank", desc := "(II)I" } : Jvm.MethodName)) ∈ lw_tbl := lw_at lw_m10 87 rfl
theorem q2337 : (Jvm.Cond.instanceMethod ({ cls := "VersionSolverModel", name := "byRank", desc := "(II)I" } : Jvm.MethodName)) ∈ lw_all := lw_g (lw_at lw_m10 88 rfl) rfl
theorem q2338 : (Jvm.Cond.code ({ cls := "VersionSolverModel", name := "byRank", desc := "(II)I" } : Jvm.MethodName) prog_24_method_65_code (4 : Nat) (Option.some Jvm.ClassFile.FieldType.int)) ∈ lw_all := lw_g (lw_at lw_m10 89 rfl) rfl
theorem q2339 : (Jvm.Cond.methodLink "VersionSolverModel" (196 : Nat) ({ cls := "VersionSolverModel", name := "fits", desc := "(II)Z" } : Jvm.MethodName)) ∈ lw_all := lw_g (lw_at lw_m10 90 rfl) rfl
theorem q2340 : (Jvm.Cond.privateMethod ({ cls := "VersionSolverModel", name := "fits", desc := "(II)Z" } : Jvm.MethodName)) ∈ lw_tbl := lw_at lw_m10 91 rfl
theorem q2341 : (Jvm.Cond.instanceMethod ({ cls := "VersionSolverModel", name := "fits", desc := "(II)Z" } : Jvm.MethodName)) ∈ lw_all := lw_g (lw_at lw_m10 92 rfl) rfl
theorem q2342 : (Jvm.Cond.code ({ cls := "VersionSolverModel", name := "fits", desc := "(II)Z" } : Jvm.MethodName) prog_24_method_64_code (5 : Nat) (Option.some Jvm.ClassFile.FieldType.boolean)) ∈ lw_all := lw_g (lw_at lw_m10 93 rfl) rfl
theorem q2343 : (Jvm.Cond.methodLink "VersionSolverModel" (178 : Nat) ({ cls := "VersionSolverModel", name := "isAsAssumed", desc := "(I)Z" } : Jvm.MethodName)) ∈ lw_all := lw_g (lw_at lw_m10 94 rfl) rfl
theorem q2344 : (Jvm.Cond.privateMethod ({ cls := "VersionSolverModel", name := "isAsAssumed", desc := "(I)Z" } : Jvm.MethodName)) ∈ lw_tbl := lw_at lw_m10 95 rfl
theorem q2345 : (Jvm.Cond.instanceMethod ({ cls := "VersionSolverModel", name := "isAsAssumed", desc := "(I)Z" } : Jvm.MethodName)) ∈ lw_all := lw_g (lw_at lw_m10 96 rfl) rfl
theorem q2346 : (Jvm.Cond.code ({ cls := "VersionSolverModel", name := "isAsAssumed", desc := "(I)Z" } : Jvm.MethodName) prog_24_method_63_code (3 : Nat) (Option.some Jvm.ClassFile.FieldType.boolean)) ∈ lw_all := lw_g (lw_at lw_m10 97 rfl) rfl
theorem q2347 : (Jvm.Cond.methodLink "VersionSolverModel" (181 : Nat) ({ cls := "VersionSolverModel", name := "lastPack", desc := "(I)I" } : Jvm.MethodName)) ∈ lw_all := lw_g (lw_at lw_m10 98 rfl) rfl
theorem q2348 : (Jvm.Cond.privateMethod ({ cls := "VersionSolverModel", name := "lastPack", desc := "(I)I" } : Jvm.MethodName)) ∈ lw_tbl := lw_at lw_m10 99 rfl
theorem q2349 : (Jvm.Cond.instanceMethod ({ cls := "VersionSolverModel", name := "lastPack", desc := "(I)I" } : Jvm.MethodName)) ∈ lw_all := lw_g (lw_at lw_m10 100 rfl) rfl
theorem q2350 : (Jvm.Cond.code ({ cls := "VersionSolverModel", name := "lastPack", desc := "(I)I" } : Jvm.MethodName) prog_24_method_61_code (4 : Nat) (Option.some Jvm.ClassFile.FieldType.int)) ∈ lw_all := lw_g (lw_at lw_m10 101 rfl) rfl
theorem q2351 : (Jvm.Cond.methodLink "VersionSolverModel" (184 : Nat) ({ cls := "VersionSolverModel", name := "holds", desc := "(I)Z" } : Jvm.MethodName)) ∈ lw_all := lw_g (lw_at lw_m10 102 rfl) rfl
theorem q2352 : (Jvm.Cond.privateMethod ({ cls := "VersionSolverModel", name := "holds", desc := "(I)Z" } : Jvm.MethodName)) ∈ lw_tbl := lw_at lw_m10 103 rfl
theorem q2353 : (Jvm.Cond.instanceMethod ({ cls := "VersionSolverModel", name := "holds", desc := "(I)Z" } : Jvm.MethodName)) ∈ lw_all := lw_g (lw_at lw_m10 104 rfl) rfl
theorem q2354 : (Jvm.Cond.code ({ cls := "VersionSolverModel", name := "holds", desc := "(I)Z" } : Jvm.MethodName) prog_24_method_60_code (5 : Nat) (Option.some Jvm.ClassFile.FieldType.boolean)) ∈ lw_all := lw_g (lw_at lw_m10 105 rfl) rfl
theorem q2356 : (Jvm.Cond.instanceMethod ({ cls := "VersionSolverModel", name := "best", desc := "(I)I" } : Jvm.MethodName)) ∈ lw_all := lw_g (lw_at lw_m10 107 rfl) rfl
theorem q2357 : (Jvm.Cond.selects "VersionSolverModel" ({ cls := "VersionSolverModel", name := "best", desc := "(I)I" } : Jvm.MethodName) ({ cls := "VersionSolverModel", name := "best", desc := "(I)I" } : Jvm.MethodName)) ∈ lw_all := lw_g (lw_at lw_m10 108 rfl) rfl
theorem q2358 : (Jvm.Cond.code ({ cls := "VersionSolverModel", name := "best", desc := "(I)I" } : Jvm.MethodName) prog_24_method_69_code (2 : Nat) (Option.some Jvm.ClassFile.FieldType.int)) ∈ lw_all := lw_g (lw_at lw_m10 109 rfl) rfl
theorem q2360 : (Jvm.Cond.instanceMethod ({ cls := "VersionSolverModel", name := "hinders", desc := "(I)I" } : Jvm.MethodName)) ∈ lw_all := lw_g (lw_at lw_m10 111 rfl) rfl
theorem q2361 : (Jvm.Cond.selects "VersionSolverModel" ({ cls := "VersionSolverModel", name := "hinders", desc := "(I)I" } : Jvm.MethodName) ({ cls := "VersionSolverModel", name := "hinders", desc := "(I)I" } : Jvm.MethodName)) ∈ lw_all := lw_g (lw_at lw_m10 112 rfl) rfl
theorem q2362 : (Jvm.Cond.code ({ cls := "VersionSolverModel", name := "hinders", desc := "(I)I" } : Jvm.MethodName) prog_24_method_70_code (5 : Nat) (Option.some Jvm.ClassFile.FieldType.int)) ∈ lw_all := lw_g (lw_at lw_m10 113 rfl) rfl
theorem q2364 : (Jvm.Cond.instanceMethod ({ cls := "VersionSolverModel", name := "without", desc := "(I)I" } : Jvm.MethodName)) ∈ lw_all := lw_g (lw_at lw_m10 115 rfl) rfl
theorem q2365 : (Jvm.Cond.selects "VersionSolverModel" ({ cls := "VersionSolverModel", name := "without", desc := "(I)I" } : Jvm.MethodName) ({ cls := "VersionSolverModel", name := "without", desc := "(I)I" } : Jvm.MethodName)) ∈ lw_all := lw_g (lw_at lw_m10 116 rfl) rfl
theorem q2366 : (Jvm.Cond.code ({ cls := "VersionSolverModel", name := "without", desc := "(I)I" } : Jvm.MethodName) prog_24_method_71_code (2 : Nat) (Option.some Jvm.ClassFile.FieldType.int)) ∈ lw_all := lw_g (lw_at lw_m10 117 rfl) rfl
theorem q2368 : (Jvm.Cond.instanceMethod ({ cls := "VersionSolverModel", name := "core", desc := "()I" } : Jvm.MethodName)) ∈ lw_all := lw_g (lw_at lw_m10 119 rfl) rfl
theorem q2369 : (Jvm.Cond.selects "VersionSolverModel" ({ cls := "VersionSolverModel", name := "core", desc := "()I" } : Jvm.MethodName) ({ cls := "VersionSolverModel", name := "core", desc := "()I" } : Jvm.MethodName)) ∈ lw_all := lw_g (lw_at lw_m10 120 rfl) rfl
theorem q2370 : (Jvm.Cond.code ({ cls := "VersionSolverModel", name := "core", desc := "()I" } : Jvm.MethodName) prog_24_method_72_code (3 : Nat) (Option.some Jvm.ClassFile.FieldType.int)) ∈ lw_all := lw_g (lw_at lw_m10 121 rfl) rfl
theorem q2372 : (Jvm.Cond.instanceMethod ({ cls := "VersionSolverModel", name := "possible", desc := "(I)I" } : Jvm.MethodName)) ∈ lw_all := lw_g (lw_at lw_m10 123 rfl) rfl
theorem q2373 : (Jvm.Cond.selects "VersionSolverModel" ({ cls := "VersionSolverModel", name := "possible", desc := "(I)I" } : Jvm.MethodName) ({ cls := "VersionSolverModel", name := "possible", desc := "(I)I" } : Jvm.MethodName)) ∈ lw_all := lw_g (lw_at lw_m10 124 rfl) rfl
theorem q2374 : (Jvm.Cond.code ({ cls := "VersionSolverModel", name := "possible", desc := "(I)I" } : Jvm.MethodName) prog_24_method_73_code (2 : Nat) (Option.some Jvm.ClassFile.FieldType.int)) ∈ lw_all := lw_g (lw_at lw_m10 125 rfl) rfl
theorem q2376 : (Jvm.Cond.instanceMethod ({ cls := "VersionSolverModel", name := "append", desc := "(C)I" } : Jvm.MethodName)) ∈ lw_all := lw_g (lw_at lw_m10 127 rfl) rfl
theorem q2377 : (Jvm.Cond.selects "VersionSolverModel" ({ cls := "VersionSolverModel", name := "append", desc := "(C)I" } : Jvm.MethodName) ({ cls := "VersionSolverModel", name := "append", desc := "(C)I" } : Jvm.MethodName)) ∈ lw_all := lw_g (lw_at lw_m10 128 rfl) rfl
theorem q2378 : (Jvm.Cond.code ({ cls := "VersionSolverModel", name := "append", desc := "(C)I" } : Jvm.MethodName) prog_24_method_74_code (2 : Nat) (Option.some Jvm.ClassFile.FieldType.int)) ∈ lw_all := lw_g (lw_at lw_m10 129 rfl) rfl
theorem q2380 : (Jvm.Cond.instanceMethod ({ cls := "VersionSolverModel", name := "read", desc := "()I" } : Jvm.MethodName)) ∈ lw_all := lw_g (lw_at lw_m10 131 rfl) rfl
theorem q2381 : (Jvm.Cond.selects "VersionSolverModel" ({ cls := "VersionSolverModel", name := "read", desc := "()I" } : Jvm.MethodName) ({ cls := "VersionSolverModel", name := "read", desc := "()I" } : Jvm.MethodName)) ∈ lw_all := lw_g (lw_at lw_m10 132 rfl) rfl
theorem q2382 : (Jvm.Cond.code ({ cls := "VersionSolverModel", name := "read", desc := "()I" } : Jvm.MethodName) prog_24_method_82_code (5 : Nat) (Option.some Jvm.ClassFile.FieldType.int)) ∈ lw_all := lw_g (lw_at lw_m10 133 rfl) rfl
theorem q2383 : (Jvm.Cond.methodLink "VersionSolverModel" (242 : Nat) ({ cls := "VersionSolverModel", name := "readsText", desc := "()Z" } : Jvm.MethodName)) ∈ lw_all := lw_g (lw_at lw_m10 134 rfl) rfl
theorem q2384 : (Jvm.Cond.privateMethod ({ cls := "VersionSolverModel", name := "readsText", desc := "()Z" } : Jvm.MethodName)) ∈ lw_tbl := lw_at lw_m10 135 rfl
theorem q2385 : (Jvm.Cond.instanceMethod ({ cls := "VersionSolverModel", name := "readsText", desc := "()Z" } : Jvm.MethodName)) ∈ lw_all := lw_g (lw_at lw_m10 136 rfl) rfl
theorem q2386 : (Jvm.Cond.code ({ cls := "VersionSolverModel", name := "readsText", desc := "()Z" } : Jvm.MethodName) prog_24_method_81_code (1 : Nat) (Option.some Jvm.ClassFile.FieldType.boolean)) ∈ lw_all := lw_g (lw_at lw_m10 137 rfl) rfl
theorem q2387 : (Jvm.Cond.methodLink "VersionSolverModel" (239 : Nat) ({ cls := "VersionSolverModel", name := "readsItem", desc := "()V" } : Jvm.MethodName)) ∈ lw_all := lw_g (lw_at lw_m10 138 rfl) rfl
theorem q2388 : (Jvm.Cond.privateMethod ({ cls := "VersionSolverModel", name := "readsItem", desc := "()V" } : Jvm.MethodName)) ∈ lw_tbl := lw_at lw_m10 139 rfl
theorem q2389 : (Jvm.Cond.instanceMethod ({ cls := "VersionSolverModel", name := "readsItem", desc := "()V" } : Jvm.MethodName)) ∈ lw_all := lw_g (lw_at lw_m10 140 rfl) rfl
theorem q2390 : (Jvm.Cond.code ({ cls := "VersionSolverModel", name := "readsItem", desc := "()V" } : Jvm.MethodName) prog_24_method_80_code (1 : Nat) (Option.none : Option Jvm.ClassFile.FieldType)) ∈ lw_all := lw_g (lw_at lw_m10 141 rfl) rfl
theorem q2391 : (Jvm.Cond.methodLink "VersionSolverModel" (229 : Nat) ({ cls := "VersionSolverModel", name := "puts", desc := "(II)V" } : Jvm.MethodName)) ∈ lw_all := lw_g (lw_at lw_m10 142 rfl) rfl
theorem q2392 : (Jvm.Cond.privateMethod ({ cls := "VersionSolverModel", name := "puts", desc := "(II)V" } : Jvm.MethodName)) ∈ lw_tbl := lw_at lw_m10 143 rfl
theorem q2393 : (Jvm.Cond.instanceMethod ({ cls := "VersionSolverModel", name := "puts", desc := "(II)V" } : Jvm.MethodName)) ∈ lw_all := lw_g (lw_at lw_m10 144 rfl) rfl
theorem q2394 : (Jvm.Cond.code ({ cls := "VersionSolverModel", name := "puts", desc := "(II)V" } : Jvm.MethodName) prog_24_method_78_code (3 : Nat) (Option.none : Option Jvm.ClassFile.FieldType)) ∈ lw_all := lw_g (lw_at lw_m10 145 rfl) rfl
theorem q2395 : (Jvm.Cond.methodLink "VersionSolverModel" (216 : Nat) ({ cls := "VersionSolverModel", name := "here", desc := "()I" } : Jvm.MethodName)) ∈ lw_all := lw_g (lw_at lw_m10 146 rfl) rfl
theorem q2396 : (Jvm.Cond.privateMethod ({ cls := "VersionSolverModel", name := "here", desc := "()I" } : Jvm.MethodName)) ∈ lw_tbl := lw_at lw_m10 147 rfl
theorem q2397 : (Jvm.Cond.instanceMethod ({ cls := "VersionSolverModel", name := "here", desc := "()I" } : Jvm.MethodName)) ∈ lw_all := lw_g (lw_at lw_m10 148 rfl) rfl
theorem q2398 : (Jvm.Cond.code ({ cls := "VersionSolverModel", name := "here", desc := "()I" } : Jvm.MethodName) prog_24_method_75_code (1 : Nat) (Option.some Jvm.ClassFile.FieldType.int)) ∈ lw_all := lw_g (lw_at lw_m10 149 rfl) rfl
theorem q2399 : (Jvm.Cond.methodLink "VersionSolverModel" (226 : Nat) ({ cls := "VersionSolverModel", name := "must", desc := "(II)I" } : Jvm.MethodName)) ∈ lw_all := lw_g (lw_at lw_m10 150 rfl) rfl
theorem q2400 : (Jvm.Cond.privateMethod ({ cls := "VersionSolverModel", name := "must", desc := "(II)I" } : Jvm.MethodName)) ∈ lw_tbl := lw_at lw_m10 151 rfl
theorem q2401 : (Jvm.Cond.instanceMethod ({ cls := "VersionSolverModel", name := "must", desc := "(II)I" } : Jvm.MethodName)) ∈ lw_all := lw_g (lw_at lw_m10 152 rfl) rfl
theorem q2402 : (Jvm.Cond.code ({ cls := "VersionSolverModel", name := "must", desc := "(II)I" } : Jvm.MethodName) prog_24_method_76_code (4 : Nat) (Option.some Jvm.ClassFile.FieldType.int)) ∈ lw_all := lw_g (lw_at lw_m10 153 rfl) rfl
theorem q2403 : (Jvm.Cond.methodLink "VersionSolverModel" (236 : Nat) ({ cls := "VersionSolverModel", name := "readsTarget", desc := "()V" } : Jvm.MethodName)) ∈ lw_all := lw_g (lw_at lw_m10 154 rfl) rfl
theorem q2404 : (Jvm.Cond.privateMethod ({ cls := "VersionSolverModel", name := "readsTarget", desc := "()V" } : Jvm.MethodName)) ∈ lw_tbl := lw_at lw_m10 155 rfl
theorem q2405 : (Jvm.Cond.instanceMethod ({ cls := "VersionSolverModel", name := "readsTarget", desc := "()V" } : Jvm.MethodName)) ∈ lw_all := lw_g (lw_at lw_m10 156 rfl) rfl
theorem q2406 : (Jvm.Cond.code ({ cls := "VersionSolverModel", name := "readsTarget", desc := "()V" } : Jvm.MethodName) prog_24_method_79_code (3 : Nat) (Option.none : Option Jvm.ClassFile.FieldType)) ∈ lw_all := lw_g (lw_at lw_m10 157 rfl) rfl
theorem q2407 : (Jvm.Cond.methodLink "VersionSolverModel" (233 : Nat) ({ cls := "VersionSolverModel", name := "among", desc := "(I)I" } : Jvm.MethodName)) ∈ lw_all := lw_g (lw_at lw_m10 158 rfl) rfl
theorem q2408 : (Jvm.Cond.privateMethod ({ cls := "VersionSolverModel", name := "among", desc := "(I)I" } : Jvm.MethodName)) ∈ lw_tbl := lw_at lw_m10 159 rfl
theorem q2409 : (Jvm.Cond.instanceMethod ({ cls := "VersionSolverModel", name := "among", desc := "(I)I" } : Jvm.MethodName)) ∈ lw_all := lw_g (lw_at lw_m10 160 rfl) rfl
theorem q2410 : (Jvm.Cond.code ({ cls := "VersionSolverModel", name := "among", desc := "(I)I" } : Jvm.MethodName) prog_24_method_77_code (2 : Nat) (Option.some Jvm.ClassFile.FieldType.int)) ∈ lw_all := lw_g (lw_at lw_m10 161 rfl) rfl
theorem q2412 : (Jvm.Cond.instanceMethod ({ cls := "VersionSolverModel", name := "fault", desc := "(Z)I" } : Jvm.MethodName)) ∈ lw_all := lw_g (lw_at lw_m10 163 rfl) rfl
theorem q2413 : (Jvm.Cond.selects "VersionSolverModel" ({ cls := "VersionSolverModel", name := "fault", desc := "(Z)I" } : Jvm.MethodName) ({ cls := "VersionSolverModel", name := "fault", desc := "(Z)I" } : Jvm.MethodName)) ∈ lw_all := lw_g (lw_at lw_m10 164 rfl) rfl
theorem q2414 : (Jvm.Cond.code ({ cls := "VersionSolverModel", name := "fault", desc := "(Z)I" } : Jvm.MethodName) prog_24_method_83_code (3 : Nat) (Option.some Jvm.ClassFile.FieldType.int)) ∈ lw_all := lw_g (lw_at lw_m10 165 rfl) rfl
theorem q2416 : (Jvm.Cond.instanceMethod ({ cls := "VersionSolverModel", name := "report", desc := "(I)I" } : Jvm.MethodName)) ∈ lw_all := lw_g (lw_at lw_m10 167 rfl) rfl
theorem q2417 : (Jvm.Cond.selects "VersionSolverModel" ({ cls := "VersionSolverModel", name := "report", desc := "(I)I" } : Jvm.MethodName) ({ cls := "VersionSolverModel", name := "report", desc := "(I)I" } : Jvm.MethodName)) ∈ lw_all := lw_g (lw_at lw_m10 168 rfl) rfl
theorem q2418 : (Jvm.Cond.code ({ cls := "VersionSolverModel", name := "report", desc := "(I)I" } : Jvm.MethodName) prog_24_method_87_code (4 : Nat) (Option.some Jvm.ClassFile.FieldType.int)) ∈ lw_all := lw_g (lw_at lw_m10 169 rfl) rfl
theorem q2419 : (Jvm.Cond.methodLink "VersionSolverModel" (260 : Nat) ({ cls := "VersionSolverModel", name := "writesNumber", desc := "(I)V" } : Jvm.MethodName)) ∈ lw_all := lw_g (lw_at lw_m10 170 rfl) rfl
theorem q2420 : (Jvm.Cond.privateMethod ({ cls := "VersionSolverModel", name := "writesNumber", desc := "(I)V" } : Jvm.MethodName)) ∈ lw_tbl := lw_at lw_m10 171 rfl
theorem q2421 : (Jvm.Cond.instanceMethod ({ cls := "VersionSolverModel", name := "writesNumber", desc := "(I)V" } : Jvm.MethodName)) ∈ lw_all := lw_g (lw_at lw_m10 172 rfl) rfl
theorem q2422 : (Jvm.Cond.code ({ cls := "VersionSolverModel", name := "writesNumber", desc := "(I)V" } : Jvm.MethodName) prog_24_method_85_code (2 : Nat) (Option.none : Option Jvm.ClassFile.FieldType)) ∈ lw_all := lw_g (lw_at lw_m10 173 rfl) rfl
theorem q2423 : (Jvm.Cond.methodLink "VersionSolverModel" (249 : Nat) ({ cls := "VersionSolverModel", name := "writes", desc := "(I)V" } : Jvm.MethodName)) ∈ lw_all := lw_g (lw_at lw_m10 174 rfl) rfl
theorem q2424 : (Jvm.Cond.privateMethod ({ cls := "VersionSolverModel", name := "writes", desc := "(I)V" } : Jvm.MethodName)) ∈ lw_tbl := lw_at lw_m10 175 rfl
theorem q2425 : (Jvm.Cond.instanceMethod ({ cls := "VersionSolverModel", name := "writes", desc := "(I)V" } : Jvm.MethodName)) ∈ lw_all := lw_g (lw_at lw_m10 176 rfl) rfl
theorem q2426 : (Jvm.Cond.code ({ cls := "VersionSolverModel", name := "writes", desc := "(I)V" } : Jvm.MethodName) prog_24_method_84_code (2 : Nat) (Option.none : Option Jvm.ClassFile.FieldType)) ∈ lw_all := lw_g (lw_at lw_m10 177 rfl) rfl
theorem q2427 : (Jvm.Cond.stringRef "VersionSolverModel" (263 : Nat) " by ") ∈ lw_tbl := lw_at lw_m10 178 rfl
theorem q2428 : (Jvm.Cond.methodLink "VersionSolverModel" (265 : Nat) ({ cls := "VersionSolverModel", name := "writesWord", desc := "(Ljava/lang/String;)V" } : Jvm.MethodName)) ∈ lw_all := lw_g (lw_at lw_m10 179 rfl) rfl
theorem q2429 : (Jvm.Cond.privateMethod ({ cls := "VersionSolverModel", name := "writesWord", desc := "(Ljava/lang/String;)V" } : Jvm.MethodName)) ∈ lw_tbl := lw_at lw_m10 180 rfl
theorem q2430 : (Jvm.Cond.instanceMethod ({ cls := "VersionSolverModel", name := "writesWord", desc := "(Ljava/lang/String;)V" } : Jvm.MethodName)) ∈ lw_all := lw_g (lw_at lw_m10 181 rfl) rfl
theorem q2431 : (Jvm.Cond.code ({ cls := "VersionSolverModel", name := "writesWord", desc := "(Ljava/lang/String;)V" } : Jvm.MethodName) prog_24_method_86_code (3 : Nat) (Option.none : Option Jvm.ClassFile.FieldType)) ∈ lw_all := lw_g (lw_at lw_m10 182 rfl) rfl
theorem q2432 : (Jvm.Cond.methodLink "VersionSolverModel" (252 : Nat) ({ cls := "java/lang/String", name := "length", desc := "()I" } : Jvm.MethodName)) ∈ lw_all := lw_g (lw_at lw_m10 183 rfl) rfl
theorem q2433 : (Jvm.Cond.methodLink "VersionSolverModel" (256 : Nat) ({ cls := "java/lang/String", name := "charAt", desc := "(I)C" } : Jvm.MethodName)) ∈ lw_all := lw_g (lw_at lw_m10 184 rfl) rfl
theorem q2434 : (Jvm.Cond.stringRef "VersionSolverModel" (269 : Nat) ": ") ∈ lw_tbl := lw_at lw_m10 185 rfl
theorem q2435 : (Jvm.Cond.stringRef "VersionSolverModel" (271 : Nat) " loses") ∈ lw_tbl := lw_at lw_m10 186 rfl
theorem q2436 : (Jvm.Cond.stringRef "VersionSolverModel" (273 : Nat) " none") ∈ lw_tbl := lw_at lw_m10 187 rfl
theorem q2438 : (Jvm.Cond.instanceMethod ({ cls := "VersionSolverModel", name := "character", desc := "(I)I" } : Jvm.MethodName)) ∈ lw_all := lw_g (lw_at lw_m10 189 rfl) rfl
theorem q2439 : (Jvm.Cond.selects "VersionSolverModel" ({ cls := "VersionSolverModel", name := "character", desc := "(I)I" } : Jvm.MethodName) ({ cls := "VersionSolverModel", name := "character", desc := "(I)I" } : Jvm.MethodName)) ∈ lw_all := lw_g (lw_at lw_m10 190 rfl) rfl
theorem q2440 : (Jvm.Cond.code ({ cls := "VersionSolverModel", name := "character", desc := "(I)I" } : Jvm.MethodName) prog_24_method_88_code (2 : Nat) (Option.some Jvm.ClassFile.FieldType.int)) ∈ lw_all := lw_g (lw_at lw_m10 191 rfl) rfl
theorem q2442 : (Jvm.Cond.instanceMethod ({ cls := "VersionSolverModel", name := "account", desc := "(I)I" } : Jvm.MethodName)) ∈ lw_all := lw_g (lw_at lw_m10 193 rfl) rfl
theorem q2443 : (Jvm.Cond.selects "VersionSolverModel" ({ cls := "VersionSolverModel", name := "account", desc := "(I)I" } : Jvm.MethodName) ({ cls := "VersionSolverModel", name := "account", desc := "(I)I" } : Jvm.MethodName)) ∈ lw_all := lw_g (lw_at lw_m10 194 rfl) rfl
theorem q2444 : (Jvm.Cond.code ({ cls := "VersionSolverModel", name := "account", desc := "(I)I" } : Jvm.MethodName) prog_24_method_91_code (2 : Nat) (Option.some Jvm.ClassFile.FieldType.int)) ∈ lw_all := lw_g (lw_at lw_m10 195 rfl) rfl
theorem q2445 : (Jvm.Cond.methodLink "VersionSolverModel" (279 : Nat) ({ cls := "VersionSolverModel", name := "sumOf", desc := "(I)I" } : Jvm.MethodName)) ∈ lw_all := lw_g (lw_at lw_m10 196 rfl) rfl
theorem q2446 : (Jvm.Cond.privateMethod ({ cls := "VersionSolverModel", name := "sumOf", desc := "(I)I" } : Jvm.MethodName)) ∈ lw_tbl := lw_at lw_m10 197 rfl
theorem q2447 : (Jvm.Cond.instanceMethod ({ cls := "VersionSolverModel", name := "sumOf", desc := "(I)I" } : Jvm.MethodName)) ∈ lw_all := lw_g (lw_at lw_m10 198 rfl) rfl
theorem q2448 : (Jvm.Cond.code ({ cls := "VersionSolverModel", name := "sumOf", desc := "(I)I" } : Jvm.MethodName) prog_24_method_89_code (4 : Nat) (Option.some Jvm.ClassFile.FieldType.int)) ∈ lw_all := lw_g (lw_at lw_m10 199 rfl) rfl
theorem q2449 : (Jvm.Cond.methodLink "VersionSolverModel" (275 : Nat) ({ cls := "VersionSolverModel", name := "count", desc := "(J)I" } : Jvm.MethodName)) ∈ lw_all := lw_g (lw_at lw_m10 200 rfl) rfl
theorem q2450 : (Jvm.Cond.static ({ cls := "VersionSolverModel", name := "count", desc := "(J)I" } : Jvm.MethodName)) ∈ lw_all := lw_g (lw_at lw_m10 201 rfl) rfl
theorem q2451 : (Jvm.Cond.code ({ cls := "VersionSolverModel", name := "count", desc := "(J)I" } : Jvm.MethodName) prog_24_method_43_code (4 : Nat) (Option.some Jvm.ClassFile.FieldType.int)) ∈ lw_all := lw_g (lw_at lw_m10 202 rfl) rfl
theorem q2452 : (Jvm.Cond.methodLink "VersionSolverModel" (282 : Nat) ({ cls := "VersionSolverModel", name := "learnedRules", desc := "()I" } : Jvm.MethodName)) ∈ lw_all := lw_g (lw_at lw_m10 203 rfl) rfl
theorem q2453 : (Jvm.Cond.privateMethod ({ cls := "VersionSolverModel", name := "learnedRules", desc := "()I" } : Jvm.MethodName)) ∈ lw_tbl := lw_at lw_m10 204 rfl
theorem q2454 : (Jvm.Cond.instanceMethod ({ cls := "VersionSolverModel", name := "learnedRules", desc := "()I" } : Jvm.MethodName)) ∈ lw_all := lw_g (lw_at lw_m10 205 rfl) rfl
theorem q2455 : (Jvm.Cond.code ({ cls := "VersionSolverModel", name := "learnedRules", desc := "()I" } : Jvm.MethodName) prog_24_method_90_code (3 : Nat) (Option.some Jvm.ClassFile.FieldType.int)) ∈ lw_all := lw_g (lw_at lw_m10 206 rfl) rfl
theorem q2457 : (Jvm.Cond.instanceMethod ({ cls := "VersionSolverModel", name := "meanStates", desc := "()D" } : Jvm.MethodName)) ∈ lw_all := lw_g (lw_at lw_m10 208 rfl) rfl
theorem q2458 : (Jvm.Cond.selects "VersionSolverModel" ({ cls := "VersionSolverModel", name := "meanStates", desc := "()D" } : Jvm.MethodName) ({ cls := "VersionSolverModel", name := "meanStates", desc := "()D" } : Jvm.MethodName)) ∈ lw_all := lw_g (lw_at lw_m10 209 rfl) rfl
theorem q2459 : (Jvm.Cond.code ({ cls := "VersionSolverModel", name := "meanStates", desc := "()D" } : Jvm.MethodName) prog_24_method_92_code (1 : Nat) (Option.some Jvm.ClassFile.FieldType.double)) ∈ lw_all := lw_g (lw_at lw_m10 210 rfl) rfl
theorem q2461 : (Jvm.Cond.instanceMethod ({ cls := "VersionSolverModel", name := "undo", desc := "()I" } : Jvm.MethodName)) ∈ lw_all := lw_g (lw_at lw_m10 212 rfl) rfl
theorem q2462 : (Jvm.Cond.selects "VersionSolverModel" ({ cls := "VersionSolverModel", name := "undo", desc := "()I" } : Jvm.MethodName) ({ cls := "VersionSolverModel", name := "undo", desc := "()I" } : Jvm.MethodName)) ∈ lw_all := lw_g (lw_at lw_m10 213 rfl) rfl
theorem q2463 : (Jvm.Cond.code ({ cls := "VersionSolverModel", name := "undo", desc := "()I" } : Jvm.MethodName) prog_24_method_93_code (2 : Nat) (Option.some Jvm.ClassFile.FieldType.int)) ∈ lw_all := lw_g (lw_at lw_m10 214 rfl) rfl
theorem q2465 : (Jvm.Cond.instanceMethod ({ cls := "VersionSolverModel", name := "save", desc := "()I" } : Jvm.MethodName)) ∈ lw_all := lw_g (lw_at lw_m10 216 rfl) rfl
theorem q2466 : (Jvm.Cond.selects "VersionSolverModel" ({ cls := "VersionSolverModel", name := "save", desc := "()I" } : Jvm.MethodName) ({ cls := "VersionSolverModel", name := "save", desc := "()I" } : Jvm.MethodName)) ∈ lw_all := lw_g (lw_at lw_m10 217 rfl) rfl
theorem q2467 : (Jvm.Cond.code ({ cls := "VersionSolverModel", name := "save", desc := "()I" } : Jvm.MethodName) prog_24_method_94_code (2 : Nat) (Option.some Jvm.ClassFile.FieldType.int)) ∈ lw_all := lw_g (lw_at lw_m10 218 rfl) rfl
theorem q2469 : (Jvm.Cond.instanceMethod ({ cls := "VersionSolverModel", name := "restore", desc := "()I" } : Jvm.MethodName)) ∈ lw_all := lw_g (lw_at lw_m10 220 rfl) rfl
theorem q2470 : (Jvm.Cond.selects "VersionSolverModel" ({ cls := "VersionSolverModel", name := "restore", desc := "()I" } : Jvm.MethodName) ({ cls := "VersionSolverModel", name := "restore", desc := "()I" } : Jvm.MethodName)) ∈ lw_all := lw_g (lw_at lw_m10 221 rfl) rfl
theorem q2471 : (Jvm.Cond.code ({ cls := "VersionSolverModel", name := "restore", desc := "()I" } : Jvm.MethodName) prog_24_method_95_code (2 : Nat) (Option.some Jvm.ClassFile.FieldType.int)) ∈ lw_all := lw_g (lw_at lw_m10 222 rfl) rfl
theorem q2507 : (Jvm.Cond.castable "VersionSolverModel" "java/lang/Object") ∈ lw_tbl := lw_at lw_m11 18 rfl
theorem in_X2 : ∀ w ∈ wsX20, w ∈ lw_all := lw_in wsX20 [2037, 2039, 2041, 2043, 2045, 2047, 2049, 2051, 2053, 2055, 2057, 2059, 2061, 2063, 2065, 2067, 2069, 2071, 2073, 2075, 2077, 2079, 2081, 2083, 2085, 2087, 2089] (by decide +kernel) (by decide +kernel)
