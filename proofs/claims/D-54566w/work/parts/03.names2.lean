/-! BarnPicturesModel -/
set_option maxRecDepth 100000
def RX5 : String := "BarnPicturesModel"
def TX5 : u_T := fun k => match k with
  | 0 => ("BarnPicturesModel", "s", "[I", true)
  | 1 => ("BarnPicturesModel", "aside", "[I", true)
  | 2 => ("BarnPicturesModel", "before", "[I", true)
  | 3 => ("BarnPicturesModel", "known", "I", false)
  | 4 => ("BarnPicturesModel", "kept", "[I", true)
  | 5 => ("BarnPicturesModel", "isKept", "Z", false)
  | 6 => ("BarnPicturesModel", "text", "[I", true)
  | 7 => ("BarnPicturesModel", "typed", "I", false)
  | 8 => ("BarnPicturesModel", "stoppedAt", "I", false)
  | 9 => ("BarnPicturesModel", "stoppedBy", "I", false)
  | 10 => ("BarnPicturesModel", "at", "I", false)
  | 11 => ("BarnPicturesModel", "isWrong", "Z", false)
  | 12 => ("BarnPicturesModel", "letter", "I", false)
  | 13 => ("BarnPicturesModel", "one", "I", false)
  | 14 => ("BarnPicturesModel", "two", "I", false)
  | _ => ("BarnPicturesModel", "fault", "I", false)
def tyX5 : Nat → FieldType := fun k => match k with
  | 0 => .array .int
  | 1 => .array .int
  | 2 => .array .int
  | 3 => .int
  | 4 => .array .int
  | 5 => .boolean
  | 6 => .array .int
  | 7 => .int
  | 8 => .int
  | 9 => .int
  | 10 => .int
  | 11 => .boolean
  | 12 => .int
  | 13 => .int
  | 14 => .int
  | _ => .int
abbrev wsX50 : List Cond := u_ws RX5 TX5 16
set_option maxRecDepth 100000 in
theorem nmX5 : ∀ a, a < 16 → ∀ b, b < 16 → a ≠ b → (TX5 a).2.1 ≠ (TX5 b).2.1 := by decide +kernel
set_option maxRecDepth 100000 in
theorem tyX5_ok : ∀ k, k < 16 → parseFieldDescriptor (TX5 k).2.2.1 = some (tyX5 k) := by decide +kernel
abbrev cX5_init : ByteArray := prog_14_method_1_code
def yX5_init : MethodName := ⟨RX5, "<init>", "()V"⟩
def dkwX5_init_6 : List UInt8 := [16, 56, 7, 79, 177]
abbrev dktX5_init_6 : List UInt8 := dkwX5_init_6 ++ []
def dkwX5_init_5 : List UInt8 := [180, 0, 7, 16, 50, 5, 27, 104, 96, 4, 96, 16, 60, 79, 132, 1, 1, 167, 255, 220, 42, 180, 0, 7]
abbrev dktX5_init_5 : List UInt8 := dkwX5_init_5 ++ dktX5_init_6
def dkwX5_init_4 : List UInt8 := [167, 255, 221, 3, 60, 27, 5, 162, 0, 37, 42, 180, 0, 7, 16, 50, 5, 27, 104, 96, 18, 25, 79, 42]
abbrev dktX5_init_4 : List UInt8 := dkwX5_init_4 ++ dktX5_init_5
def dkwX5_init_3 : List UInt8 := [184, 0, 33, 18, 25, 79, 42, 180, 0, 7, 27, 4, 184, 0, 33, 16, 8, 27, 96, 79, 132, 1, 1]
abbrev dktX5_init_3 : List UInt8 := dkwX5_init_3 ++ dktX5_init_4
def dkwX5_init_2 : List UInt8 := [181, 0, 26, 42, 18, 25, 181, 0, 30, 3, 60, 27, 16, 10, 162, 0, 35, 42, 180, 0, 7, 27, 3]
abbrev dktX5_init_2 : List UInt8 := dkwX5_init_2 ++ dktX5_init_3
def dkwX5_init_1 : List UInt8 := [188, 10, 181, 0, 16, 42, 16, 108, 188, 10, 181, 0, 19, 42, 16, 80, 188, 10, 181, 0, 22, 42, 18, 25]
abbrev dktX5_init_1 : List UInt8 := dkwX5_init_1 ++ dktX5_init_2
def dkwX5_init_0 : List UInt8 := [42, 183, 0, 1, 42, 16, 108, 188, 10, 181, 0, 7, 42, 16, 108, 188, 10, 181, 0, 13, 42, 17, 1, 176]
abbrev dktX5_init_0 : List UInt8 := dkwX5_init_0 ++ dktX5_init_1
theorem dksX5_init_0 : cX5_init.data.toList.drop 0 = dktX5_init_0 := by decide +kernel
theorem dksX5_init_1 : cX5_init.data.toList.drop 24 = dktX5_init_1 := dk_seg dksX5_init_0 24 rfl rfl
theorem dksX5_init_2 : cX5_init.data.toList.drop 48 = dktX5_init_2 := dk_seg dksX5_init_1 24 rfl rfl
theorem dksX5_init_3 : cX5_init.data.toList.drop 71 = dktX5_init_3 := dk_seg dksX5_init_2 23 rfl rfl
theorem dksX5_init_4 : cX5_init.data.toList.drop 94 = dktX5_init_4 := dk_seg dksX5_init_3 23 rfl rfl
theorem dksX5_init_5 : cX5_init.data.toList.drop 118 = dktX5_init_5 := dk_seg dksX5_init_4 24 rfl rfl
theorem dksX5_init_6 : cX5_init.data.toList.drop 142 = dktX5_init_6 := dk_seg dksX5_init_5 24 rfl rfl
theorem dX5_init_0 : decode cX5_init 0 = .ok (.aload_n 0, 1) := dk_42 (dk_at dksX5_init_0 0 rfl rfl)
theorem dX5_init_1 : decode cX5_init 1 = .ok (.invokespecial 1, 3) := dk_183 0 1 (dk_at dksX5_init_0 1 rfl rfl)
theorem dX5_init_4 : decode cX5_init 4 = .ok (.aload_n 0, 1) := dk_42 (dk_at dksX5_init_0 4 rfl rfl)
theorem dX5_init_5 : decode cX5_init 5 = .ok (.bipush 108, 2) := dk_16 108 (dk_at dksX5_init_0 5 rfl rfl)
theorem dX5_init_7 : decode cX5_init 7 = .ok (.newarray .int, 2) := dk_188_10 (dk_at dksX5_init_0 7 rfl rfl)
theorem dX5_init_9 : decode cX5_init 9 = .ok (.putfield 7, 3) := dk_181 0 7 (dk_at dksX5_init_0 9 rfl rfl)
theorem dX5_init_12 : decode cX5_init 12 = .ok (.aload_n 0, 1) := dk_42 (dk_at dksX5_init_0 12 rfl rfl)
theorem dX5_init_13 : decode cX5_init 13 = .ok (.bipush 108, 2) := dk_16 108 (dk_at dksX5_init_0 13 rfl rfl)
theorem dX5_init_15 : decode cX5_init 15 = .ok (.newarray .int, 2) := dk_188_10 (dk_at dksX5_init_0 15 rfl rfl)
theorem dX5_init_17 : decode cX5_init 17 = .ok (.putfield 13, 3) := dk_181 0 13 (dk_at dksX5_init_0 17 rfl rfl)
theorem dX5_init_20 : decode cX5_init 20 = .ok (.aload_n 0, 1) := dk_42 (dk_at dksX5_init_0 20 rfl rfl)
theorem dX5_init_21 : decode cX5_init 21 = .ok (.sipush 432, 3) := dk_17 1 176 (dk_at dksX5_init_0 21 rfl rfl)
theorem dX5_init_24 : decode cX5_init 24 = .ok (.newarray .int, 2) := dk_188_10 (dk_at dksX5_init_1 0 rfl rfl)
theorem dX5_init_26 : decode cX5_init 26 = .ok (.putfield 16, 3) := dk_181 0 16 (dk_at dksX5_init_1 2 rfl rfl)
theorem dX5_init_29 : decode cX5_init 29 = .ok (.aload_n 0, 1) := dk_42 (dk_at dksX5_init_1 5 rfl rfl)
theorem dX5_init_30 : decode cX5_init 30 = .ok (.bipush 108, 2) := dk_16 108 (dk_at dksX5_init_1 6 rfl rfl)
theorem dX5_init_32 : decode cX5_init 32 = .ok (.newarray .int, 2) := dk_188_10 (dk_at dksX5_init_1 8 rfl rfl)
theorem dX5_init_34 : decode cX5_init 34 = .ok (.putfield 19, 3) := dk_181 0 19 (dk_at dksX5_init_1 10 rfl rfl)
theorem dX5_init_37 : decode cX5_init 37 = .ok (.aload_n 0, 1) := dk_42 (dk_at dksX5_init_1 13 rfl rfl)
theorem dX5_init_38 : decode cX5_init 38 = .ok (.bipush 80, 2) := dk_16 80 (dk_at dksX5_init_1 14 rfl rfl)
theorem dX5_init_40 : decode cX5_init 40 = .ok (.newarray .int, 2) := dk_188_10 (dk_at dksX5_init_1 16 rfl rfl)
theorem dX5_init_42 : decode cX5_init 42 = .ok (.putfield 22, 3) := dk_181 0 22 (dk_at dksX5_init_1 18 rfl rfl)
theorem dX5_init_45 : decode cX5_init 45 = .ok (.aload_n 0, 1) := dk_42 (dk_at dksX5_init_1 21 rfl rfl)
theorem dX5_init_46 : decode cX5_init 46 = .ok (.ldc 25, 2) := dk_18 25 (dk_at dksX5_init_1 22 rfl rfl)
theorem dX5_init_48 : decode cX5_init 48 = .ok (.putfield 26, 3) := dk_181 0 26 (dk_at dksX5_init_2 0 rfl rfl)
theorem dX5_init_51 : decode cX5_init 51 = .ok (.aload_n 0, 1) := dk_42 (dk_at dksX5_init_2 3 rfl rfl)
theorem dX5_init_52 : decode cX5_init 52 = .ok (.ldc 25, 2) := dk_18 25 (dk_at dksX5_init_2 4 rfl rfl)
theorem dX5_init_54 : decode cX5_init 54 = .ok (.putfield 30, 3) := dk_181 0 30 (dk_at dksX5_init_2 6 rfl rfl)
theorem dX5_init_57 : decode cX5_init 57 = .ok (.iconst 0, 1) := dk_3 (dk_at dksX5_init_2 9 rfl rfl)
theorem dX5_init_58 : decode cX5_init 58 = .ok (.istore_n 1, 1) := dk_60 (dk_at dksX5_init_2 10 rfl rfl)
theorem dX5_init_59 : decode cX5_init 59 = .ok (.iload_n 1, 1) := dk_27 (dk_at dksX5_init_2 11 rfl rfl)
theorem dX5_init_60 : decode cX5_init 60 = .ok (.bipush 10, 2) := dk_16 10 (dk_at dksX5_init_2 12 rfl rfl)
theorem dX5_init_62 : decode cX5_init 62 = .ok (.if_icmp .ge 35, 3) := dk_162 0 35 (dk_at dksX5_init_2 14 rfl rfl)
theorem dX5_init_65 : decode cX5_init 65 = .ok (.aload_n 0, 1) := dk_42 (dk_at dksX5_init_2 17 rfl rfl)
theorem dX5_init_66 : decode cX5_init 66 = .ok (.getfield 7, 3) := dk_180 0 7 (dk_at dksX5_init_2 18 rfl rfl)
theorem dX5_init_69 : decode cX5_init 69 = .ok (.iload_n 1, 1) := dk_27 (dk_at dksX5_init_2 21 rfl rfl)
theorem dX5_init_70 : decode cX5_init 70 = .ok (.iconst 0, 1) := dk_3 (dk_at dksX5_init_2 22 rfl rfl)
theorem dX5_init_71 : decode cX5_init 71 = .ok (.invokestatic 33, 3) := dk_184 0 33 (dk_at dksX5_init_3 0 rfl rfl)
theorem dX5_init_74 : decode cX5_init 74 = .ok (.ldc 25, 2) := dk_18 25 (dk_at dksX5_init_3 3 rfl rfl)
theorem dX5_init_76 : decode cX5_init 76 = .ok (.iastore, 1) := dk_79 (dk_at dksX5_init_3 5 rfl rfl)
theorem dX5_init_77 : decode cX5_init 77 = .ok (.aload_n 0, 1) := dk_42 (dk_at dksX5_init_3 6 rfl rfl)
theorem dX5_init_78 : decode cX5_init 78 = .ok (.getfield 7, 3) := dk_180 0 7 (dk_at dksX5_init_3 7 rfl rfl)
theorem dX5_init_81 : decode cX5_init 81 = .ok (.iload_n 1, 1) := dk_27 (dk_at dksX5_init_3 10 rfl rfl)
theorem dX5_init_82 : decode cX5_init 82 = .ok (.iconst 1, 1) := dk_4 (dk_at dksX5_init_3 11 rfl rfl)
theorem dX5_init_83 : decode cX5_init 83 = .ok (.invokestatic 33, 3) := dk_184 0 33 (dk_at dksX5_init_3 12 rfl rfl)
theorem dX5_init_86 : decode cX5_init 86 = .ok (.bipush 8, 2) := dk_16 8 (dk_at dksX5_init_3 15 rfl rfl)
theorem dX5_init_88 : decode cX5_init 88 = .ok (.iload_n 1, 1) := dk_27 (dk_at dksX5_init_3 17 rfl rfl)
theorem dX5_init_89 : decode cX5_init 89 = .ok (.iadd, 1) := dk_96 (dk_at dksX5_init_3 18 rfl rfl)
theorem dX5_init_90 : decode cX5_init 90 = .ok (.iastore, 1) := dk_79 (dk_at dksX5_init_3 19 rfl rfl)
theorem dX5_init_91 : decode cX5_init 91 = .ok (.iinc 1 1, 3) := dk_132 1 1 (dk_at dksX5_init_3 20 rfl rfl)
theorem dX5_init_94 : decode cX5_init 94 = .ok (.goto (-35), 3) := dk_167 255 221 (dk_at dksX5_init_4 0 rfl rfl)
theorem dX5_init_97 : decode cX5_init 97 = .ok (.iconst 0, 1) := dk_3 (dk_at dksX5_init_4 3 rfl rfl)
theorem dX5_init_98 : decode cX5_init 98 = .ok (.istore_n 1, 1) := dk_60 (dk_at dksX5_init_4 4 rfl rfl)
theorem dX5_init_99 : decode cX5_init 99 = .ok (.iload_n 1, 1) := dk_27 (dk_at dksX5_init_4 5 rfl rfl)
theorem dX5_init_100 : decode cX5_init 100 = .ok (.iconst 2, 1) := dk_5 (dk_at dksX5_init_4 6 rfl rfl)
theorem dX5_init_101 : decode cX5_init 101 = .ok (.if_icmp .ge 37, 3) := dk_162 0 37 (dk_at dksX5_init_4 7 rfl rfl)
theorem dX5_init_104 : decode cX5_init 104 = .ok (.aload_n 0, 1) := dk_42 (dk_at dksX5_init_4 10 rfl rfl)
theorem dX5_init_105 : decode cX5_init 105 = .ok (.getfield 7, 3) := dk_180 0 7 (dk_at dksX5_init_4 11 rfl rfl)
theorem dX5_init_108 : decode cX5_init 108 = .ok (.bipush 50, 2) := dk_16 50 (dk_at dksX5_init_4 14 rfl rfl)
theorem dX5_init_110 : decode cX5_init 110 = .ok (.iconst 2, 1) := dk_5 (dk_at dksX5_init_4 16 rfl rfl)
theorem dX5_init_111 : decode cX5_init 111 = .ok (.iload_n 1, 1) := dk_27 (dk_at dksX5_init_4 17 rfl rfl)
theorem dX5_init_112 : decode cX5_init 112 = .ok (.imul, 1) := dk_104 (dk_at dksX5_init_4 18 rfl rfl)
theorem dX5_init_113 : decode cX5_init 113 = .ok (.iadd, 1) := dk_96 (dk_at dksX5_init_4 19 rfl rfl)
theorem dX5_init_114 : decode cX5_init 114 = .ok (.ldc 25, 2) := dk_18 25 (dk_at dksX5_init_4 20 rfl rfl)
theorem dX5_init_116 : decode cX5_init 116 = .ok (.iastore, 1) := dk_79 (dk_at dksX5_init_4 22 rfl rfl)
theorem dX5_init_117 : decode cX5_init 117 = .ok (.aload_n 0, 1) := dk_42 (dk_at dksX5_init_4 23 rfl rfl)
theorem dX5_init_118 : decode cX5_init 118 = .ok (.getfield 7, 3) := dk_180 0 7 (dk_at dksX5_init_5 0 rfl rfl)
theorem dX5_init_121 : decode cX5_init 121 = .ok (.bipush 50, 2) := dk_16 50 (dk_at dksX5_init_5 3 rfl rfl)
theorem dX5_init_123 : decode cX5_init 123 = .ok (.iconst 2, 1) := dk_5 (dk_at dksX5_init_5 5 rfl rfl)
theorem dX5_init_124 : decode cX5_init 124 = .ok (.iload_n 1, 1) := dk_27 (dk_at dksX5_init_5 6 rfl rfl)
theorem dX5_init_125 : decode cX5_init 125 = .ok (.imul, 1) := dk_104 (dk_at dksX5_init_5 7 rfl rfl)
theorem dX5_init_126 : decode cX5_init 126 = .ok (.iadd, 1) := dk_96 (dk_at dksX5_init_5 8 rfl rfl)
theorem dX5_init_127 : decode cX5_init 127 = .ok (.iconst 1, 1) := dk_4 (dk_at dksX5_init_5 9 rfl rfl)
theorem dX5_init_128 : decode cX5_init 128 = .ok (.iadd, 1) := dk_96 (dk_at dksX5_init_5 10 rfl rfl)
theorem dX5_init_129 : decode cX5_init 129 = .ok (.bipush 60, 2) := dk_16 60 (dk_at dksX5_init_5 11 rfl rfl)
theorem dX5_init_131 : decode cX5_init 131 = .ok (.iastore, 1) := dk_79 (dk_at dksX5_init_5 13 rfl rfl)
theorem dX5_init_132 : decode cX5_init 132 = .ok (.iinc 1 1, 3) := dk_132 1 1 (dk_at dksX5_init_5 14 rfl rfl)
theorem dX5_init_135 : decode cX5_init 135 = .ok (.goto (-36), 3) := dk_167 255 220 (dk_at dksX5_init_5 17 rfl rfl)
theorem dX5_init_138 : decode cX5_init 138 = .ok (.aload_n 0, 1) := dk_42 (dk_at dksX5_init_5 20 rfl rfl)
theorem dX5_init_139 : decode cX5_init 139 = .ok (.getfield 7, 3) := dk_180 0 7 (dk_at dksX5_init_5 21 rfl rfl)
theorem dX5_init_142 : decode cX5_init 142 = .ok (.bipush 56, 2) := dk_16 56 (dk_at dksX5_init_6 0 rfl rfl)
theorem dX5_init_144 : decode cX5_init 144 = .ok (.iconst 4, 1) := dk_7 (dk_at dksX5_init_6 2 rfl rfl)
theorem dX5_init_145 : decode cX5_init 145 = .ok (.iastore, 1) := dk_79 (dk_at dksX5_init_6 3 rfl rfl)
theorem dX5_init_146 : decode cX5_init 146 = .ok (.return_, 1) := dk_177 (dk_at dksX5_init_6 4 rfl rfl)
abbrev cX5_of : ByteArray := prog_14_method_4_code
def yX5_of : MethodName := ⟨RX5, "of", "(II)I"⟩
def dkwX5_of_0 : List UInt8 := [3, 8, 26, 104, 96, 27, 96, 172]
abbrev dktX5_of_0 : List UInt8 := dkwX5_of_0 ++ []
theorem dksX5_of_0 : cX5_of.data.toList.drop 0 = dktX5_of_0 := by decide +kernel
theorem dX5_of_0 : decode cX5_of 0 = .ok (.iconst 0, 1) := dk_3 (dk_at dksX5_of_0 0 rfl rfl)
theorem dX5_of_1 : decode cX5_of 1 = .ok (.iconst 5, 1) := dk_8 (dk_at dksX5_of_0 1 rfl rfl)
theorem dX5_of_2 : decode cX5_of 2 = .ok (.iload_n 0, 1) := dk_26 (dk_at dksX5_of_0 2 rfl rfl)
theorem dX5_of_3 : decode cX5_of 3 = .ok (.imul, 1) := dk_104 (dk_at dksX5_of_0 3 rfl rfl)
theorem dX5_of_4 : decode cX5_of 4 = .ok (.iadd, 1) := dk_96 (dk_at dksX5_of_0 4 rfl rfl)
theorem dX5_of_5 : decode cX5_of 5 = .ok (.iload_n 1, 1) := dk_27 (dk_at dksX5_of_0 5 rfl rfl)
theorem dX5_of_6 : decode cX5_of 6 = .ok (.iadd, 1) := dk_96 (dk_at dksX5_of_0 6 rfl rfl)
theorem dX5_of_7 : decode cX5_of 7 = .ok (.ireturn, 1) := dk_172 (dk_at dksX5_of_0 7 rfl rfl)
abbrev cX5_drive : ByteArray := prog_14_method_29_code
def yX5_drive : MethodName := ⟨RX5, "drive", "(I)I"⟩
def dkwX5_drive_1 : List UInt8 := [42, 182, 0, 83, 42, 27, 182, 0, 86, 172]
abbrev dktX5_drive_1 : List UInt8 := dkwX5_drive_1 ++ []
def dkwX5_drive_0 : List UInt8 := [27, 184, 0, 80, 154, 0, 6, 18, 58, 172, 42, 180, 0, 7, 16, 54, 46, 27, 160, 0, 6, 18, 25, 172]
abbrev dktX5_drive_0 : List UInt8 := dkwX5_drive_0 ++ dktX5_drive_1
theorem dksX5_drive_0 : cX5_drive.data.toList.drop 0 = dktX5_drive_0 := by decide +kernel
theorem dksX5_drive_1 : cX5_drive.data.toList.drop 24 = dktX5_drive_1 := dk_seg dksX5_drive_0 24 rfl rfl
theorem dX5_drive_0 : decode cX5_drive 0 = .ok (.iload_n 1, 1) := dk_27 (dk_at dksX5_drive_0 0 rfl rfl)
theorem dX5_drive_1 : decode cX5_drive 1 = .ok (.invokestatic 80, 3) := dk_184 0 80 (dk_at dksX5_drive_0 1 rfl rfl)
theorem dX5_drive_4 : decode cX5_drive 4 = .ok (.ifCond .ne 6, 3) := dk_154 0 6 (dk_at dksX5_drive_0 4 rfl rfl)
theorem dX5_drive_7 : decode cX5_drive 7 = .ok (.ldc 58, 2) := dk_18 58 (dk_at dksX5_drive_0 7 rfl rfl)
theorem dX5_drive_9 : decode cX5_drive 9 = .ok (.ireturn, 1) := dk_172 (dk_at dksX5_drive_0 9 rfl rfl)
theorem dX5_drive_10 : decode cX5_drive 10 = .ok (.aload_n 0, 1) := dk_42 (dk_at dksX5_drive_0 10 rfl rfl)
theorem dX5_drive_11 : decode cX5_drive 11 = .ok (.getfield 7, 3) := dk_180 0 7 (dk_at dksX5_drive_0 11 rfl rfl)
theorem dX5_drive_14 : decode cX5_drive 14 = .ok (.bipush 54, 2) := dk_16 54 (dk_at dksX5_drive_0 14 rfl rfl)
theorem dX5_drive_16 : decode cX5_drive 16 = .ok (.iaload, 1) := dk_46 (dk_at dksX5_drive_0 16 rfl rfl)
theorem dX5_drive_17 : decode cX5_drive 17 = .ok (.iload_n 1, 1) := dk_27 (dk_at dksX5_drive_0 17 rfl rfl)
theorem dX5_drive_18 : decode cX5_drive 18 = .ok (.if_icmp .ne 6, 3) := dk_160 0 6 (dk_at dksX5_drive_0 18 rfl rfl)
theorem dX5_drive_21 : decode cX5_drive 21 = .ok (.ldc 25, 2) := dk_18 25 (dk_at dksX5_drive_0 21 rfl rfl)
theorem dX5_drive_23 : decode cX5_drive 23 = .ok (.ireturn, 1) := dk_172 (dk_at dksX5_drive_0 23 rfl rfl)
theorem dX5_drive_24 : decode cX5_drive 24 = .ok (.aload_n 0, 1) := dk_42 (dk_at dksX5_drive_1 0 rfl rfl)
theorem dX5_drive_25 : decode cX5_drive 25 = .ok (.invokevirtual 83, 3) := dk_182 0 83 (dk_at dksX5_drive_1 1 rfl rfl)
theorem dX5_drive_28 : decode cX5_drive 28 = .ok (.aload_n 0, 1) := dk_42 (dk_at dksX5_drive_1 4 rfl rfl)
theorem dX5_drive_29 : decode cX5_drive 29 = .ok (.iload_n 1, 1) := dk_27 (dk_at dksX5_drive_1 5 rfl rfl)
theorem dX5_drive_30 : decode cX5_drive 30 = .ok (.invokevirtual 86, 3) := dk_182 0 86 (dk_at dksX5_drive_1 6 rfl rfl)
theorem dX5_drive_33 : decode cX5_drive 33 = .ok (.ireturn, 1) := dk_172 (dk_at dksX5_drive_1 9 rfl rfl)
abbrev cX5_isBarn : ByteArray := prog_14_method_5_code
def yX5_isBarn : MethodName := ⟨RX5, "isBarn", "(I)Z"⟩
def dkwX5_isBarn_0 : List UInt8 := [26, 3, 7, 184, 0, 37, 172]
abbrev dktX5_isBarn_0 : List UInt8 := dkwX5_isBarn_0 ++ []
theorem dksX5_isBarn_0 : cX5_isBarn.data.toList.drop 0 = dktX5_isBarn_0 := by decide +kernel
theorem dX5_isBarn_0 : decode cX5_isBarn 0 = .ok (.iload_n 0, 1) := dk_26 (dk_at dksX5_isBarn_0 0 rfl rfl)
theorem dX5_isBarn_1 : decode cX5_isBarn 1 = .ok (.iconst 0, 1) := dk_3 (dk_at dksX5_isBarn_0 1 rfl rfl)
theorem dX5_isBarn_2 : decode cX5_isBarn 2 = .ok (.iconst 4, 1) := dk_7 (dk_at dksX5_isBarn_0 2 rfl rfl)
theorem dX5_isBarn_3 : decode cX5_isBarn 3 = .ok (.invokestatic 37, 3) := dk_184 0 37 (dk_at dksX5_isBarn_0 3 rfl rfl)
theorem dX5_isBarn_6 : decode cX5_isBarn 6 = .ok (.ireturn, 1) := dk_172 (dk_at dksX5_isBarn_0 6 rfl rfl)
abbrev cX5_in : ByteArray := prog_14_method_3_code
def yX5_in : MethodName := ⟨RX5, "in", "(III)Z"⟩
def dkwX5_in_0 : List UInt8 := [26, 27, 161, 0, 12, 26, 28, 163, 0, 7, 4, 167, 0, 4, 3, 172]
abbrev dktX5_in_0 : List UInt8 := dkwX5_in_0 ++ []
theorem dksX5_in_0 : cX5_in.data.toList.drop 0 = dktX5_in_0 := by decide +kernel
theorem dX5_in_0 : decode cX5_in 0 = .ok (.iload_n 0, 1) := dk_26 (dk_at dksX5_in_0 0 rfl rfl)
theorem dX5_in_1 : decode cX5_in 1 = .ok (.iload_n 1, 1) := dk_27 (dk_at dksX5_in_0 1 rfl rfl)
theorem dX5_in_2 : decode cX5_in 2 = .ok (.if_icmp .lt 12, 3) := dk_161 0 12 (dk_at dksX5_in_0 2 rfl rfl)
theorem dX5_in_5 : decode cX5_in 5 = .ok (.iload_n 0, 1) := dk_26 (dk_at dksX5_in_0 5 rfl rfl)
theorem dX5_in_6 : decode cX5_in 6 = .ok (.iload_n 2, 1) := dk_28 (dk_at dksX5_in_0 6 rfl rfl)
theorem dX5_in_7 : decode cX5_in 7 = .ok (.if_icmp .gt 7, 3) := dk_163 0 7 (dk_at dksX5_in_0 7 rfl rfl)
theorem dX5_in_10 : decode cX5_in 10 = .ok (.iconst 1, 1) := dk_4 (dk_at dksX5_in_0 10 rfl rfl)
theorem dX5_in_11 : decode cX5_in 11 = .ok (.goto 4, 3) := dk_167 0 4 (dk_at dksX5_in_0 11 rfl rfl)
theorem dX5_in_14 : decode cX5_in 14 = .ok (.iconst 0, 1) := dk_3 (dk_at dksX5_in_0 14 rfl rfl)
theorem dX5_in_15 : decode cX5_in 15 = .ok (.ireturn, 1) := dk_172 (dk_at dksX5_in_0 15 rfl rfl)
abbrev cX5_know : ByteArray := prog_14_method_10_code
def yX5_know : MethodName := ⟨RX5, "know", "()V"⟩
def dkwX5_know_3 : List UInt8 := [42, 180, 0, 7, 27, 46, 79, 132, 1, 1, 167, 255, 227, 42, 89, 180, 0, 41, 4, 96, 181, 0, 41, 177]
abbrev dktX5_know_3 : List UInt8 := dkwX5_know_3 ++ []
def dkwX5_know_2 : List UInt8 := [181, 0, 41, 3, 60, 27, 16, 108, 162, 0, 29, 42, 180, 0, 16, 16, 108, 42, 180, 0, 41, 104, 27, 96]
abbrev dktX5_know_2 : List UInt8 := dkwX5_know_2 ++ dktX5_know_3
def dkwX5_know_1 : List UInt8 := [180, 0, 16, 16, 108, 27, 96, 46, 79, 132, 1, 1, 167, 255, 231, 42, 89, 180, 0, 41, 4, 100]
abbrev dktX5_know_1 : List UInt8 := dkwX5_know_1 ++ dktX5_know_2
def dkwX5_know_0 : List UInt8 := [42, 180, 0, 41, 7, 160, 0, 43, 3, 60, 27, 17, 1, 68, 162, 0, 24, 42, 180, 0, 16, 27, 42]
abbrev dktX5_know_0 : List UInt8 := dkwX5_know_0 ++ dktX5_know_1
theorem dksX5_know_0 : cX5_know.data.toList.drop 0 = dktX5_know_0 := by decide +kernel
theorem dksX5_know_1 : cX5_know.data.toList.drop 23 = dktX5_know_1 := dk_seg dksX5_know_0 23 rfl rfl
theorem dksX5_know_2 : cX5_know.data.toList.drop 45 = dktX5_know_2 := dk_seg dksX5_know_1 22 rfl rfl
theorem dksX5_know_3 : cX5_know.data.toList.drop 69 = dktX5_know_3 := dk_seg dksX5_know_2 24 rfl rfl
theorem dX5_know_0 : decode cX5_know 0 = .ok (.aload_n 0, 1) := dk_42 (dk_at dksX5_know_0 0 rfl rfl)
theorem dX5_know_1 : decode cX5_know 1 = .ok (.getfield 41, 3) := dk_180 0 41 (dk_at dksX5_know_0 1 rfl rfl)
theorem dX5_know_4 : decode cX5_know 4 = .ok (.iconst 4, 1) := dk_7 (dk_at dksX5_know_0 4 rfl rfl)
theorem dX5_know_5 : decode cX5_know 5 = .ok (.if_icmp .ne 43, 3) := dk_160 0 43 (dk_at dksX5_know_0 5 rfl rfl)
theorem dX5_know_8 : decode cX5_know 8 = .ok (.iconst 0, 1) := dk_3 (dk_at dksX5_know_0 8 rfl rfl)
theorem dX5_know_9 : decode cX5_know 9 = .ok (.istore_n 1, 1) := dk_60 (dk_at dksX5_know_0 9 rfl rfl)
theorem dX5_know_10 : decode cX5_know 10 = .ok (.iload_n 1, 1) := dk_27 (dk_at dksX5_know_0 10 rfl rfl)
theorem dX5_know_11 : decode cX5_know 11 = .ok (.sipush 324, 3) := dk_17 1 68 (dk_at dksX5_know_0 11 rfl rfl)
theorem dX5_know_14 : decode cX5_know 14 = .ok (.if_icmp .ge 24, 3) := dk_162 0 24 (dk_at dksX5_know_0 14 rfl rfl)
theorem dX5_know_17 : decode cX5_know 17 = .ok (.aload_n 0, 1) := dk_42 (dk_at dksX5_know_0 17 rfl rfl)
theorem dX5_know_18 : decode cX5_know 18 = .ok (.getfield 16, 3) := dk_180 0 16 (dk_at dksX5_know_0 18 rfl rfl)
theorem dX5_know_21 : decode cX5_know 21 = .ok (.iload_n 1, 1) := dk_27 (dk_at dksX5_know_0 21 rfl rfl)
theorem dX5_know_22 : decode cX5_know 22 = .ok (.aload_n 0, 1) := dk_42 (dk_at dksX5_know_0 22 rfl rfl)
theorem dX5_know_23 : decode cX5_know 23 = .ok (.getfield 16, 3) := dk_180 0 16 (dk_at dksX5_know_1 0 rfl rfl)
theorem dX5_know_26 : decode cX5_know 26 = .ok (.bipush 108, 2) := dk_16 108 (dk_at dksX5_know_1 3 rfl rfl)
theorem dX5_know_28 : decode cX5_know 28 = .ok (.iload_n 1, 1) := dk_27 (dk_at dksX5_know_1 5 rfl rfl)
theorem dX5_know_29 : decode cX5_know 29 = .ok (.iadd, 1) := dk_96 (dk_at dksX5_know_1 6 rfl rfl)
theorem dX5_know_30 : decode cX5_know 30 = .ok (.iaload, 1) := dk_46 (dk_at dksX5_know_1 7 rfl rfl)
theorem dX5_know_31 : decode cX5_know 31 = .ok (.iastore, 1) := dk_79 (dk_at dksX5_know_1 8 rfl rfl)
theorem dX5_know_32 : decode cX5_know 32 = .ok (.iinc 1 1, 3) := dk_132 1 1 (dk_at dksX5_know_1 9 rfl rfl)
theorem dX5_know_35 : decode cX5_know 35 = .ok (.goto (-25), 3) := dk_167 255 231 (dk_at dksX5_know_1 12 rfl rfl)
theorem dX5_know_38 : decode cX5_know 38 = .ok (.aload_n 0, 1) := dk_42 (dk_at dksX5_know_1 15 rfl rfl)
theorem dX5_know_39 : decode cX5_know 39 = .ok (.dup, 1) := dk_89 (dk_at dksX5_know_1 16 rfl rfl)
theorem dX5_know_40 : decode cX5_know 40 = .ok (.getfield 41, 3) := dk_180 0 41 (dk_at dksX5_know_1 17 rfl rfl)
theorem dX5_know_43 : decode cX5_know 43 = .ok (.iconst 1, 1) := dk_4 (dk_at dksX5_know_1 20 rfl rfl)
theorem dX5_know_44 : decode cX5_know 44 = .ok (.isub, 1) := dk_100 (dk_at dksX5_know_1 21 rfl rfl)
theorem dX5_know_45 : decode cX5_know 45 = .ok (.putfield 41, 3) := dk_181 0 41 (dk_at dksX5_know_2 0 rfl rfl)
theorem dX5_know_48 : decode cX5_know 48 = .ok (.iconst 0, 1) := dk_3 (dk_at dksX5_know_2 3 rfl rfl)
theorem dX5_know_49 : decode cX5_know 49 = .ok (.istore_n 1, 1) := dk_60 (dk_at dksX5_know_2 4 rfl rfl)
theorem dX5_know_50 : decode cX5_know 50 = .ok (.iload_n 1, 1) := dk_27 (dk_at dksX5_know_2 5 rfl rfl)
theorem dX5_know_51 : decode cX5_know 51 = .ok (.bipush 108, 2) := dk_16 108 (dk_at dksX5_know_2 6 rfl rfl)
theorem dX5_know_53 : decode cX5_know 53 = .ok (.if_icmp .ge 29, 3) := dk_162 0 29 (dk_at dksX5_know_2 8 rfl rfl)
theorem dX5_know_56 : decode cX5_know 56 = .ok (.aload_n 0, 1) := dk_42 (dk_at dksX5_know_2 11 rfl rfl)
theorem dX5_know_57 : decode cX5_know 57 = .ok (.getfield 16, 3) := dk_180 0 16 (dk_at dksX5_know_2 12 rfl rfl)
theorem dX5_know_60 : decode cX5_know 60 = .ok (.bipush 108, 2) := dk_16 108 (dk_at dksX5_know_2 15 rfl rfl)
theorem dX5_know_62 : decode cX5_know 62 = .ok (.aload_n 0, 1) := dk_42 (dk_at dksX5_know_2 17 rfl rfl)
theorem dX5_know_63 : decode cX5_know 63 = .ok (.getfield 41, 3) := dk_180 0 41 (dk_at dksX5_know_2 18 rfl rfl)
theorem dX5_know_66 : decode cX5_know 66 = .ok (.imul, 1) := dk_104 (dk_at dksX5_know_2 21 rfl rfl)
theorem dX5_know_67 : decode cX5_know 67 = .ok (.iload_n 1, 1) := dk_27 (dk_at dksX5_know_2 22 rfl rfl)
theorem dX5_know_68 : decode cX5_know 68 = .ok (.iadd, 1) := dk_96 (dk_at dksX5_know_2 23 rfl rfl)
theorem dX5_know_69 : decode cX5_know 69 = .ok (.aload_n 0, 1) := dk_42 (dk_at dksX5_know_3 0 rfl rfl)
theorem dX5_know_70 : decode cX5_know 70 = .ok (.getfield 7, 3) := dk_180 0 7 (dk_at dksX5_know_3 1 rfl rfl)
theorem dX5_know_73 : decode cX5_know 73 = .ok (.iload_n 1, 1) := dk_27 (dk_at dksX5_know_3 4 rfl rfl)
theorem dX5_know_74 : decode cX5_know 74 = .ok (.iaload, 1) := dk_46 (dk_at dksX5_know_3 5 rfl rfl)
theorem dX5_know_75 : decode cX5_know 75 = .ok (.iastore, 1) := dk_79 (dk_at dksX5_know_3 6 rfl rfl)
theorem dX5_know_76 : decode cX5_know 76 = .ok (.iinc 1 1, 3) := dk_132 1 1 (dk_at dksX5_know_3 7 rfl rfl)
theorem dX5_know_79 : decode cX5_know 79 = .ok (.goto (-29), 3) := dk_167 255 227 (dk_at dksX5_know_3 10 rfl rfl)
theorem dX5_know_82 : decode cX5_know 82 = .ok (.aload_n 0, 1) := dk_42 (dk_at dksX5_know_3 13 rfl rfl)
theorem dX5_know_83 : decode cX5_know 83 = .ok (.dup, 1) := dk_89 (dk_at dksX5_know_3 14 rfl rfl)
theorem dX5_know_84 : decode cX5_know 84 = .ok (.getfield 41, 3) := dk_180 0 41 (dk_at dksX5_know_3 15 rfl rfl)
theorem dX5_know_87 : decode cX5_know 87 = .ok (.iconst 1, 1) := dk_4 (dk_at dksX5_know_3 18 rfl rfl)
theorem dX5_know_88 : decode cX5_know 88 = .ok (.iadd, 1) := dk_96 (dk_at dksX5_know_3 19 rfl rfl)
theorem dX5_know_89 : decode cX5_know 89 = .ok (.putfield 41, 3) := dk_181 0 41 (dk_at dksX5_know_3 20 rfl rfl)
theorem dX5_know_92 : decode cX5_know 92 = .ok (.return_, 1) := dk_177 (dk_at dksX5_know_3 23 rfl rfl)
abbrev cX5_drives : ByteArray := prog_14_method_18_code
def yX5_drives : MethodName := ⟨RX5, "drives", "(I)I"⟩
def dkwX5_drives_2 : List UInt8 := [28, 172]
abbrev dktX5_drives_2 : List UInt8 := dkwX5_drives_2 ++ []
def dkwX5_drives_1 : List UInt8 := [167, 0, 4, 28, 61, 42, 180, 0, 7, 16, 72, 92, 46, 28, 96, 79, 42, 180, 0, 7, 16, 54, 27, 79]
abbrev dktX5_drives_1 : List UInt8 := dkwX5_drives_1 ++ dktX5_drives_2
def dkwX5_drives_0 : List UInt8 := [27, 184, 0, 50, 42, 180, 0, 7, 16, 54, 46, 184, 0, 50, 100, 61, 28, 156, 0, 8, 28, 116]
abbrev dktX5_drives_0 : List UInt8 := dkwX5_drives_0 ++ dktX5_drives_1
theorem dksX5_drives_0 : cX5_drives.data.toList.drop 0 = dktX5_drives_0 := by decide +kernel
theorem dksX5_drives_1 : cX5_drives.data.toList.drop 22 = dktX5_drives_1 := dk_seg dksX5_drives_0 22 rfl rfl
theorem dksX5_drives_2 : cX5_drives.data.toList.drop 46 = dktX5_drives_2 := dk_seg dksX5_drives_1 24 rfl rfl
theorem dX5_drives_0 : decode cX5_drives 0 = .ok (.iload_n 1, 1) := dk_27 (dk_at dksX5_drives_0 0 rfl rfl)
theorem dX5_drives_1 : decode cX5_drives 1 = .ok (.invokestatic 50, 3) := dk_184 0 50 (dk_at dksX5_drives_0 1 rfl rfl)
theorem dX5_drives_4 : decode cX5_drives 4 = .ok (.aload_n 0, 1) := dk_42 (dk_at dksX5_drives_0 4 rfl rfl)
theorem dX5_drives_5 : decode cX5_drives 5 = .ok (.getfield 7, 3) := dk_180 0 7 (dk_at dksX5_drives_0 5 rfl rfl)
theorem dX5_drives_8 : decode cX5_drives 8 = .ok (.bipush 54, 2) := dk_16 54 (dk_at dksX5_drives_0 8 rfl rfl)
theorem dX5_drives_10 : decode cX5_drives 10 = .ok (.iaload, 1) := dk_46 (dk_at dksX5_drives_0 10 rfl rfl)
theorem dX5_drives_11 : decode cX5_drives 11 = .ok (.invokestatic 50, 3) := dk_184 0 50 (dk_at dksX5_drives_0 11 rfl rfl)
theorem dX5_drives_14 : decode cX5_drives 14 = .ok (.isub, 1) := dk_100 (dk_at dksX5_drives_0 14 rfl rfl)
theorem dX5_drives_15 : decode cX5_drives 15 = .ok (.istore_n 2, 1) := dk_61 (dk_at dksX5_drives_0 15 rfl rfl)
theorem dX5_drives_16 : decode cX5_drives 16 = .ok (.iload_n 2, 1) := dk_28 (dk_at dksX5_drives_0 16 rfl rfl)
theorem dX5_drives_17 : decode cX5_drives 17 = .ok (.ifCond .ge 8, 3) := dk_156 0 8 (dk_at dksX5_drives_0 17 rfl rfl)
theorem dX5_drives_20 : decode cX5_drives 20 = .ok (.iload_n 2, 1) := dk_28 (dk_at dksX5_drives_0 20 rfl rfl)
theorem dX5_drives_21 : decode cX5_drives 21 = .ok (.ineg, 1) := dk_116 (dk_at dksX5_drives_0 21 rfl rfl)
theorem dX5_drives_22 : decode cX5_drives 22 = .ok (.goto 4, 3) := dk_167 0 4 (dk_at dksX5_drives_1 0 rfl rfl)
theorem dX5_drives_25 : decode cX5_drives 25 = .ok (.iload_n 2, 1) := dk_28 (dk_at dksX5_drives_1 3 rfl rfl)
theorem dX5_drives_26 : decode cX5_drives 26 = .ok (.istore_n 2, 1) := dk_61 (dk_at dksX5_drives_1 4 rfl rfl)
theorem dX5_drives_27 : decode cX5_drives 27 = .ok (.aload_n 0, 1) := dk_42 (dk_at dksX5_drives_1 5 rfl rfl)
theorem dX5_drives_28 : decode cX5_drives 28 = .ok (.getfield 7, 3) := dk_180 0 7 (dk_at dksX5_drives_1 6 rfl rfl)
theorem dX5_drives_31 : decode cX5_drives 31 = .ok (.bipush 72, 2) := dk_16 72 (dk_at dksX5_drives_1 9 rfl rfl)
theorem dX5_drives_33 : decode cX5_drives 33 = .ok (.dup2, 1) := dk_92 (dk_at dksX5_drives_1 11 rfl rfl)
theorem dX5_drives_34 : decode cX5_drives 34 = .ok (.iaload, 1) := dk_46 (dk_at dksX5_drives_1 12 rfl rfl)
theorem dX5_drives_35 : decode cX5_drives 35 = .ok (.iload_n 2, 1) := dk_28 (dk_at dksX5_drives_1 13 rfl rfl)
theorem dX5_drives_36 : decode cX5_drives 36 = .ok (.iadd, 1) := dk_96 (dk_at dksX5_drives_1 14 rfl rfl)
theorem dX5_drives_37 : decode cX5_drives 37 = .ok (.iastore, 1) := dk_79 (dk_at dksX5_drives_1 15 rfl rfl)
theorem dX5_drives_38 : decode cX5_drives 38 = .ok (.aload_n 0, 1) := dk_42 (dk_at dksX5_drives_1 16 rfl rfl)
theorem dX5_drives_39 : decode cX5_drives 39 = .ok (.getfield 7, 3) := dk_180 0 7 (dk_at dksX5_drives_1 17 rfl rfl)
theorem dX5_drives_42 : decode cX5_drives 42 = .ok (.bipush 54, 2) := dk_16 54 (dk_at dksX5_drives_1 20 rfl rfl)
theorem dX5_drives_44 : decode cX5_drives 44 = .ok (.iload_n 1, 1) := dk_27 (dk_at dksX5_drives_1 22 rfl rfl)
theorem dX5_drives_45 : decode cX5_drives 45 = .ok (.iastore, 1) := dk_79 (dk_at dksX5_drives_1 23 rfl rfl)
theorem dX5_drives_46 : decode cX5_drives 46 = .ok (.iload_n 2, 1) := dk_28 (dk_at dksX5_drives_2 0 rfl rfl)
theorem dX5_drives_47 : decode cX5_drives 47 = .ok (.ireturn, 1) := dk_172 (dk_at dksX5_drives_2 1 rfl rfl)
abbrev cX5_mile : ByteArray := prog_14_method_8_code
def yX5_mile : MethodName := ⟨RX5, "mile", "(I)I"⟩
def dkwX5_mile_1 : List UInt8 := [16, 20, 167, 0, 15, 26, 6, 160, 0, 8, 16, 26, 167, 0, 5, 16, 45, 172]
abbrev dktX5_mile_1 : List UInt8 := dkwX5_mile_1 ++ []
def dkwX5_mile_0 : List UInt8 := [26, 154, 0, 7, 3, 167, 0, 35, 26, 4, 160, 0, 8, 16, 8, 167, 0, 25, 26, 5, 160, 0, 8]
abbrev dktX5_mile_0 : List UInt8 := dkwX5_mile_0 ++ dktX5_mile_1
theorem dksX5_mile_0 : cX5_mile.data.toList.drop 0 = dktX5_mile_0 := by decide +kernel
theorem dksX5_mile_1 : cX5_mile.data.toList.drop 23 = dktX5_mile_1 := dk_seg dksX5_mile_0 23 rfl rfl
theorem dX5_mile_0 : decode cX5_mile 0 = .ok (.iload_n 0, 1) := dk_26 (dk_at dksX5_mile_0 0 rfl rfl)
theorem dX5_mile_1 : decode cX5_mile 1 = .ok (.ifCond .ne 7, 3) := dk_154 0 7 (dk_at dksX5_mile_0 1 rfl rfl)
theorem dX5_mile_4 : decode cX5_mile 4 = .ok (.iconst 0, 1) := dk_3 (dk_at dksX5_mile_0 4 rfl rfl)
theorem dX5_mile_5 : decode cX5_mile 5 = .ok (.goto 35, 3) := dk_167 0 35 (dk_at dksX5_mile_0 5 rfl rfl)
theorem dX5_mile_8 : decode cX5_mile 8 = .ok (.iload_n 0, 1) := dk_26 (dk_at dksX5_mile_0 8 rfl rfl)
theorem dX5_mile_9 : decode cX5_mile 9 = .ok (.iconst 1, 1) := dk_4 (dk_at dksX5_mile_0 9 rfl rfl)
theorem dX5_mile_10 : decode cX5_mile 10 = .ok (.if_icmp .ne 8, 3) := dk_160 0 8 (dk_at dksX5_mile_0 10 rfl rfl)
theorem dX5_mile_13 : decode cX5_mile 13 = .ok (.bipush 8, 2) := dk_16 8 (dk_at dksX5_mile_0 13 rfl rfl)
theorem dX5_mile_15 : decode cX5_mile 15 = .ok (.goto 25, 3) := dk_167 0 25 (dk_at dksX5_mile_0 15 rfl rfl)
theorem dX5_mile_18 : decode cX5_mile 18 = .ok (.iload_n 0, 1) := dk_26 (dk_at dksX5_mile_0 18 rfl rfl)
theorem dX5_mile_19 : decode cX5_mile 19 = .ok (.iconst 2, 1) := dk_5 (dk_at dksX5_mile_0 19 rfl rfl)
theorem dX5_mile_20 : decode cX5_mile 20 = .ok (.if_icmp .ne 8, 3) := dk_160 0 8 (dk_at dksX5_mile_0 20 rfl rfl)
theorem dX5_mile_23 : decode cX5_mile 23 = .ok (.bipush 20, 2) := dk_16 20 (dk_at dksX5_mile_1 0 rfl rfl)
theorem dX5_mile_25 : decode cX5_mile 25 = .ok (.goto 15, 3) := dk_167 0 15 (dk_at dksX5_mile_1 2 rfl rfl)
theorem dX5_mile_28 : decode cX5_mile 28 = .ok (.iload_n 0, 1) := dk_26 (dk_at dksX5_mile_1 5 rfl rfl)
theorem dX5_mile_29 : decode cX5_mile 29 = .ok (.iconst 3, 1) := dk_6 (dk_at dksX5_mile_1 6 rfl rfl)
theorem dX5_mile_30 : decode cX5_mile 30 = .ok (.if_icmp .ne 8, 3) := dk_160 0 8 (dk_at dksX5_mile_1 7 rfl rfl)
theorem dX5_mile_33 : decode cX5_mile 33 = .ok (.bipush 26, 2) := dk_16 26 (dk_at dksX5_mile_1 10 rfl rfl)
theorem dX5_mile_35 : decode cX5_mile 35 = .ok (.goto 5, 3) := dk_167 0 5 (dk_at dksX5_mile_1 12 rfl rfl)
theorem dX5_mile_38 : decode cX5_mile 38 = .ok (.bipush 45, 2) := dk_16 45 (dk_at dksX5_mile_1 15 rfl rfl)
theorem dX5_mile_40 : decode cX5_mile 40 = .ok (.ireturn, 1) := dk_172 (dk_at dksX5_mile_1 17 rfl rfl)
abbrev cX5_moveReel : ByteArray := prog_14_method_31_code
def yX5_moveReel : MethodName := ⟨RX5, "moveReel", "(IZ)I"⟩
def dkwX5_moveReel_1 : List UInt8 := [182, 0, 99, 172]
abbrev dktX5_moveReel_1 : List UInt8 := dkwX5_moveReel_1 ++ []
def dkwX5_moveReel_0 : List UInt8 := [42, 27, 182, 0, 96, 62, 42, 29, 29, 153, 0, 11, 27, 3, 184, 0, 33, 167, 0, 4, 3, 28]
abbrev dktX5_moveReel_0 : List UInt8 := dkwX5_moveReel_0 ++ dktX5_moveReel_1
theorem dksX5_moveReel_0 : cX5_moveReel.data.toList.drop 0 = dktX5_moveReel_0 := by decide +kernel
theorem dksX5_moveReel_1 : cX5_moveReel.data.toList.drop 22 = dktX5_moveReel_1 := dk_seg dksX5_moveReel_0 22 rfl rfl
theorem dX5_moveReel_0 : decode cX5_moveReel 0 = .ok (.aload_n 0, 1) := dk_42 (dk_at dksX5_moveReel_0 0 rfl rfl)
theorem dX5_moveReel_1 : decode cX5_moveReel 1 = .ok (.iload_n 1, 1) := dk_27 (dk_at dksX5_moveReel_0 1 rfl rfl)
theorem dX5_moveReel_2 : decode cX5_moveReel 2 = .ok (.invokevirtual 96, 3) := dk_182 0 96 (dk_at dksX5_moveReel_0 2 rfl rfl)
theorem dX5_moveReel_5 : decode cX5_moveReel 5 = .ok (.istore_n 3, 1) := dk_62 (dk_at dksX5_moveReel_0 5 rfl rfl)
theorem dX5_moveReel_6 : decode cX5_moveReel 6 = .ok (.aload_n 0, 1) := dk_42 (dk_at dksX5_moveReel_0 6 rfl rfl)
theorem dX5_moveReel_7 : decode cX5_moveReel 7 = .ok (.iload_n 3, 1) := dk_29 (dk_at dksX5_moveReel_0 7 rfl rfl)
theorem dX5_moveReel_8 : decode cX5_moveReel 8 = .ok (.iload_n 3, 1) := dk_29 (dk_at dksX5_moveReel_0 8 rfl rfl)
theorem dX5_moveReel_9 : decode cX5_moveReel 9 = .ok (.ifCond .eq 11, 3) := dk_153 0 11 (dk_at dksX5_moveReel_0 9 rfl rfl)
theorem dX5_moveReel_12 : decode cX5_moveReel 12 = .ok (.iload_n 1, 1) := dk_27 (dk_at dksX5_moveReel_0 12 rfl rfl)
theorem dX5_moveReel_13 : decode cX5_moveReel 13 = .ok (.iconst 0, 1) := dk_3 (dk_at dksX5_moveReel_0 13 rfl rfl)
theorem dX5_moveReel_14 : decode cX5_moveReel 14 = .ok (.invokestatic 33, 3) := dk_184 0 33 (dk_at dksX5_moveReel_0 14 rfl rfl)
theorem dX5_moveReel_17 : decode cX5_moveReel 17 = .ok (.goto 4, 3) := dk_167 0 4 (dk_at dksX5_moveReel_0 17 rfl rfl)
theorem dX5_moveReel_20 : decode cX5_moveReel 20 = .ok (.iconst 0, 1) := dk_3 (dk_at dksX5_moveReel_0 20 rfl rfl)
theorem dX5_moveReel_21 : decode cX5_moveReel 21 = .ok (.iload_n 2, 1) := dk_28 (dk_at dksX5_moveReel_0 21 rfl rfl)
theorem dX5_moveReel_22 : decode cX5_moveReel 22 = .ok (.invokevirtual 99, 3) := dk_182 0 99 (dk_at dksX5_moveReel_1 0 rfl rfl)
theorem dX5_moveReel_25 : decode cX5_moveReel 25 = .ok (.ireturn, 1) := dk_172 (dk_at dksX5_moveReel_1 3 rfl rfl)
abbrev cX5_isReel : ByteArray := prog_14_method_6_code
def yX5_isReel : MethodName := ⟨RX5, "isReel", "(I)Z"⟩
def dkwX5_isReel_1 : List UInt8 := [159, 0, 7, 4, 167, 0, 4, 3, 172]
abbrev dktX5_isReel_1 : List UInt8 := dkwX5_isReel_1 ++ []
def dkwX5_isReel_0 : List UInt8 := [27, 3, 16, 9, 184, 0, 37, 153, 0, 22, 42, 180, 0, 7, 27, 3, 184, 0, 33, 46, 16, 254]
abbrev dktX5_isReel_0 : List UInt8 := dkwX5_isReel_0 ++ dktX5_isReel_1
theorem dksX5_isReel_0 : cX5_isReel.data.toList.drop 0 = dktX5_isReel_0 := by decide +kernel
theorem dksX5_isReel_1 : cX5_isReel.data.toList.drop 22 = dktX5_isReel_1 := dk_seg dksX5_isReel_0 22 rfl rfl
theorem dX5_isReel_0 : decode cX5_isReel 0 = .ok (.iload_n 1, 1) := dk_27 (dk_at dksX5_isReel_0 0 rfl rfl)
theorem dX5_isReel_1 : decode cX5_isReel 1 = .ok (.iconst 0, 1) := dk_3 (dk_at dksX5_isReel_0 1 rfl rfl)
theorem dX5_isReel_2 : decode cX5_isReel 2 = .ok (.bipush 9, 2) := dk_16 9 (dk_at dksX5_isReel_0 2 rfl rfl)
theorem dX5_isReel_4 : decode cX5_isReel 4 = .ok (.invokestatic 37, 3) := dk_184 0 37 (dk_at dksX5_isReel_0 4 rfl rfl)
theorem dX5_isReel_7 : decode cX5_isReel 7 = .ok (.ifCond .eq 22, 3) := dk_153 0 22 (dk_at dksX5_isReel_0 7 rfl rfl)
theorem dX5_isReel_10 : decode cX5_isReel 10 = .ok (.aload_n 0, 1) := dk_42 (dk_at dksX5_isReel_0 10 rfl rfl)
theorem dX5_isReel_11 : decode cX5_isReel 11 = .ok (.getfield 7, 3) := dk_180 0 7 (dk_at dksX5_isReel_0 11 rfl rfl)
theorem dX5_isReel_14 : decode cX5_isReel 14 = .ok (.iload_n 1, 1) := dk_27 (dk_at dksX5_isReel_0 14 rfl rfl)
theorem dX5_isReel_15 : decode cX5_isReel 15 = .ok (.iconst 0, 1) := dk_3 (dk_at dksX5_isReel_0 15 rfl rfl)
theorem dX5_isReel_16 : decode cX5_isReel 16 = .ok (.invokestatic 33, 3) := dk_184 0 33 (dk_at dksX5_isReel_0 16 rfl rfl)
theorem dX5_isReel_19 : decode cX5_isReel 19 = .ok (.iaload, 1) := dk_46 (dk_at dksX5_isReel_0 19 rfl rfl)
theorem dX5_isReel_20 : decode cX5_isReel 20 = .ok (.bipush (-2), 2) := dk_16 254 (dk_at dksX5_isReel_0 20 rfl rfl)
theorem dX5_isReel_22 : decode cX5_isReel 22 = .ok (.if_icmp .eq 7, 3) := dk_159 0 7 (dk_at dksX5_isReel_1 0 rfl rfl)
theorem dX5_isReel_25 : decode cX5_isReel 25 = .ok (.iconst 1, 1) := dk_4 (dk_at dksX5_isReel_1 3 rfl rfl)
theorem dX5_isReel_26 : decode cX5_isReel 26 = .ok (.goto 4, 3) := dk_167 0 4 (dk_at dksX5_isReel_1 4 rfl rfl)
theorem dX5_isReel_29 : decode cX5_isReel 29 = .ok (.iconst 0, 1) := dk_3 (dk_at dksX5_isReel_1 7 rfl rfl)
theorem dX5_isReel_30 : decode cX5_isReel 30 = .ok (.ireturn, 1) := dk_172 (dk_at dksX5_isReel_1 8 rfl rfl)
abbrev cX5_movesIf : ByteArray := prog_14_method_30_code
def yX5_movesIf : MethodName := ⟨RX5, "movesIf", "(ZIZ)I"⟩
def dkwX5_movesIf_1 : List UInt8 := [172, 42, 182, 0, 83, 42, 28, 29, 182, 0, 93, 172]
abbrev dktX5_movesIf_1 : List UInt8 := dkwX5_movesIf_1 ++ []
def dkwX5_movesIf_0 : List UInt8 := [27, 153, 0, 12, 42, 28, 29, 182, 0, 89, 167, 0, 5, 18, 58, 54, 4, 21, 4, 156, 0, 6, 21, 4]
abbrev dktX5_movesIf_0 : List UInt8 := dkwX5_movesIf_0 ++ dktX5_movesIf_1
theorem dksX5_movesIf_0 : cX5_movesIf.data.toList.drop 0 = dktX5_movesIf_0 := by decide +kernel
theorem dksX5_movesIf_1 : cX5_movesIf.data.toList.drop 24 = dktX5_movesIf_1 := dk_seg dksX5_movesIf_0 24 rfl rfl
theorem dX5_movesIf_0 : decode cX5_movesIf 0 = .ok (.iload_n 1, 1) := dk_27 (dk_at dksX5_movesIf_0 0 rfl rfl)
theorem dX5_movesIf_1 : decode cX5_movesIf 1 = .ok (.ifCond .eq 12, 3) := dk_153 0 12 (dk_at dksX5_movesIf_0 1 rfl rfl)
theorem dX5_movesIf_4 : decode cX5_movesIf 4 = .ok (.aload_n 0, 1) := dk_42 (dk_at dksX5_movesIf_0 4 rfl rfl)
theorem dX5_movesIf_5 : decode cX5_movesIf 5 = .ok (.iload_n 2, 1) := dk_28 (dk_at dksX5_movesIf_0 5 rfl rfl)
theorem dX5_movesIf_6 : decode cX5_movesIf 6 = .ok (.iload_n 3, 1) := dk_29 (dk_at dksX5_movesIf_0 6 rfl rfl)
theorem dX5_movesIf_7 : decode cX5_movesIf 7 = .ok (.invokevirtual 89, 3) := dk_182 0 89 (dk_at dksX5_movesIf_0 7 rfl rfl)
theorem dX5_movesIf_10 : decode cX5_movesIf 10 = .ok (.goto 5, 3) := dk_167 0 5 (dk_at dksX5_movesIf_0 10 rfl rfl)
theorem dX5_movesIf_13 : decode cX5_movesIf 13 = .ok (.ldc 58, 2) := dk_18 58 (dk_at dksX5_movesIf_0 13 rfl rfl)
theorem dX5_movesIf_15 : decode cX5_movesIf 15 = .ok (.istore 4, 2) := dk_54 4 (dk_at dksX5_movesIf_0 15 rfl rfl)
theorem dX5_movesIf_17 : decode cX5_movesIf 17 = .ok (.iload 4, 2) := dk_21 4 (dk_at dksX5_movesIf_0 17 rfl rfl)
theorem dX5_movesIf_19 : decode cX5_movesIf 19 = .ok (.ifCond .ge 6, 3) := dk_156 0 6 (dk_at dksX5_movesIf_0 19 rfl rfl)
theorem dX5_movesIf_22 : decode cX5_movesIf 22 = .ok (.iload 4, 2) := dk_21 4 (dk_at dksX5_movesIf_0 22 rfl rfl)
theorem dX5_movesIf_24 : decode cX5_movesIf 24 = .ok (.ireturn, 1) := dk_172 (dk_at dksX5_movesIf_1 0 rfl rfl)
theorem dX5_movesIf_25 : decode cX5_movesIf 25 = .ok (.aload_n 0, 1) := dk_42 (dk_at dksX5_movesIf_1 1 rfl rfl)
theorem dX5_movesIf_26 : decode cX5_movesIf 26 = .ok (.invokevirtual 83, 3) := dk_182 0 83 (dk_at dksX5_movesIf_1 2 rfl rfl)
theorem dX5_movesIf_29 : decode cX5_movesIf 29 = .ok (.aload_n 0, 1) := dk_42 (dk_at dksX5_movesIf_1 5 rfl rfl)
theorem dX5_movesIf_30 : decode cX5_movesIf 30 = .ok (.iload_n 2, 1) := dk_28 (dk_at dksX5_movesIf_1 6 rfl rfl)
theorem dX5_movesIf_31 : decode cX5_movesIf 31 = .ok (.iload_n 3, 1) := dk_29 (dk_at dksX5_movesIf_1 7 rfl rfl)
theorem dX5_movesIf_32 : decode cX5_movesIf 32 = .ok (.invokevirtual 93, 3) := dk_182 0 93 (dk_at dksX5_movesIf_1 8 rfl rfl)
theorem dX5_movesIf_35 : decode cX5_movesIf 35 = .ok (.ireturn, 1) := dk_172 (dk_at dksX5_movesIf_1 11 rfl rfl)
abbrev cX5_moveFault : ByteArray := prog_14_method_16_code
def yX5_moveFault : MethodName := ⟨RX5, "moveFault", "(IZ)I"⟩
def dkwX5_moveFault_3 : List UInt8 := [167, 0, 4, 3, 172]
abbrev dktX5_moveFault_3 : List UInt8 := dkwX5_moveFault_3 ++ []
def dkwX5_moveFault_2 : List UInt8 := [160, 0, 8, 18, 25, 167, 0, 22, 28, 153, 0, 17, 42, 182, 0, 45, 16, 8, 161, 0, 8, 18, 49]
abbrev dktX5_moveFault_2 : List UInt8 := dkwX5_moveFault_2 ++ dktX5_moveFault_3
def dkwX5_moveFault_1 : List UInt8 := [159, 0, 6, 18, 44, 172, 42, 180, 0, 7, 27, 46, 18, 25, 160, 0, 7, 4, 167, 0, 4, 3, 28]
abbrev dktX5_moveFault_1 : List UInt8 := dkwX5_moveFault_1 ++ dktX5_moveFault_2
def dkwX5_moveFault_0 : List UInt8 := [42, 180, 0, 7, 27, 46, 18, 25, 159, 0, 22, 42, 180, 0, 7, 27, 46, 42, 180, 0, 7, 16, 54, 46]
abbrev dktX5_moveFault_0 : List UInt8 := dkwX5_moveFault_0 ++ dktX5_moveFault_1
theorem dksX5_moveFault_0 : cX5_moveFault.data.toList.drop 0 = dktX5_moveFault_0 := by decide +kernel
theorem dksX5_moveFault_1 : cX5_moveFault.data.toList.drop 24 = dktX5_moveFault_1 := dk_seg dksX5_moveFault_0 24 rfl rfl
theorem dksX5_moveFault_2 : cX5_moveFault.data.toList.drop 47 = dktX5_moveFault_2 := dk_seg dksX5_moveFault_1 23 rfl rfl
theorem dksX5_moveFault_3 : cX5_moveFault.data.toList.drop 70 = dktX5_moveFault_3 := dk_seg dksX5_moveFault_2 23 rfl rfl
theorem dX5_moveFault_0 : decode cX5_moveFault 0 = .ok (.aload_n 0, 1) := dk_42 (dk_at dksX5_moveFault_0 0 rfl rfl)
theorem dX5_moveFault_1 : decode cX5_moveFault 1 = .ok (.getfield 7, 3) := dk_180 0 7 (dk_at dksX5_moveFault_0 1 rfl rfl)
theorem dX5_moveFault_4 : decode cX5_moveFault 4 = .ok (.iload_n 1, 1) := dk_27 (dk_at dksX5_moveFault_0 4 rfl rfl)
theorem dX5_moveFault_5 : decode cX5_moveFault 5 = .ok (.iaload, 1) := dk_46 (dk_at dksX5_moveFault_0 5 rfl rfl)
theorem dX5_moveFault_6 : decode cX5_moveFault 6 = .ok (.ldc 25, 2) := dk_18 25 (dk_at dksX5_moveFault_0 6 rfl rfl)
theorem dX5_moveFault_8 : decode cX5_moveFault 8 = .ok (.if_icmp .eq 22, 3) := dk_159 0 22 (dk_at dksX5_moveFault_0 8 rfl rfl)
theorem dX5_moveFault_11 : decode cX5_moveFault 11 = .ok (.aload_n 0, 1) := dk_42 (dk_at dksX5_moveFault_0 11 rfl rfl)
theorem dX5_moveFault_12 : decode cX5_moveFault 12 = .ok (.getfield 7, 3) := dk_180 0 7 (dk_at dksX5_moveFault_0 12 rfl rfl)
theorem dX5_moveFault_15 : decode cX5_moveFault 15 = .ok (.iload_n 1, 1) := dk_27 (dk_at dksX5_moveFault_0 15 rfl rfl)
theorem dX5_moveFault_16 : decode cX5_moveFault 16 = .ok (.iaload, 1) := dk_46 (dk_at dksX5_moveFault_0 16 rfl rfl)
theorem dX5_moveFault_17 : decode cX5_moveFault 17 = .ok (.aload_n 0, 1) := dk_42 (dk_at dksX5_moveFault_0 17 rfl rfl)
theorem dX5_moveFault_18 : decode cX5_moveFault 18 = .ok (.getfield 7, 3) := dk_180 0 7 (dk_at dksX5_moveFault_0 18 rfl rfl)
theorem dX5_moveFault_21 : decode cX5_moveFault 21 = .ok (.bipush 54, 2) := dk_16 54 (dk_at dksX5_moveFault_0 21 rfl rfl)
theorem dX5_moveFault_23 : decode cX5_moveFault 23 = .ok (.iaload, 1) := dk_46 (dk_at dksX5_moveFault_0 23 rfl rfl)
theorem dX5_moveFault_24 : decode cX5_moveFault 24 = .ok (.if_icmp .eq 6, 3) := dk_159 0 6 (dk_at dksX5_moveFault_1 0 rfl rfl)
theorem dX5_moveFault_27 : decode cX5_moveFault 27 = .ok (.ldc 44, 2) := dk_18 44 (dk_at dksX5_moveFault_1 3 rfl rfl)
theorem dX5_moveFault_29 : decode cX5_moveFault 29 = .ok (.ireturn, 1) := dk_172 (dk_at dksX5_moveFault_1 5 rfl rfl)
theorem dX5_moveFault_30 : decode cX5_moveFault 30 = .ok (.aload_n 0, 1) := dk_42 (dk_at dksX5_moveFault_1 6 rfl rfl)
theorem dX5_moveFault_31 : decode cX5_moveFault 31 = .ok (.getfield 7, 3) := dk_180 0 7 (dk_at dksX5_moveFault_1 7 rfl rfl)
theorem dX5_moveFault_34 : decode cX5_moveFault 34 = .ok (.iload_n 1, 1) := dk_27 (dk_at dksX5_moveFault_1 10 rfl rfl)
theorem dX5_moveFault_35 : decode cX5_moveFault 35 = .ok (.iaload, 1) := dk_46 (dk_at dksX5_moveFault_1 11 rfl rfl)
theorem dX5_moveFault_36 : decode cX5_moveFault 36 = .ok (.ldc 25, 2) := dk_18 25 (dk_at dksX5_moveFault_1 12 rfl rfl)
theorem dX5_moveFault_38 : decode cX5_moveFault 38 = .ok (.if_icmp .ne 7, 3) := dk_160 0 7 (dk_at dksX5_moveFault_1 14 rfl rfl)
theorem dX5_moveFault_41 : decode cX5_moveFault 41 = .ok (.iconst 1, 1) := dk_4 (dk_at dksX5_moveFault_1 17 rfl rfl)
theorem dX5_moveFault_42 : decode cX5_moveFault 42 = .ok (.goto 4, 3) := dk_167 0 4 (dk_at dksX5_moveFault_1 18 rfl rfl)
theorem dX5_moveFault_45 : decode cX5_moveFault 45 = .ok (.iconst 0, 1) := dk_3 (dk_at dksX5_moveFault_1 21 rfl rfl)
theorem dX5_moveFault_46 : decode cX5_moveFault 46 = .ok (.iload_n 2, 1) := dk_28 (dk_at dksX5_moveFault_1 22 rfl rfl)
theorem dX5_moveFault_47 : decode cX5_moveFault 47 = .ok (.if_icmp .ne 8, 3) := dk_160 0 8 (dk_at dksX5_moveFault_2 0 rfl rfl)
theorem dX5_moveFault_50 : decode cX5_moveFault 50 = .ok (.ldc 25, 2) := dk_18 25 (dk_at dksX5_moveFault_2 3 rfl rfl)
theorem dX5_moveFault_52 : decode cX5_moveFault 52 = .ok (.goto 22, 3) := dk_167 0 22 (dk_at dksX5_moveFault_2 5 rfl rfl)
theorem dX5_moveFault_55 : decode cX5_moveFault 55 = .ok (.iload_n 2, 1) := dk_28 (dk_at dksX5_moveFault_2 8 rfl rfl)
theorem dX5_moveFault_56 : decode cX5_moveFault 56 = .ok (.ifCond .eq 17, 3) := dk_153 0 17 (dk_at dksX5_moveFault_2 9 rfl rfl)
theorem dX5_moveFault_59 : decode cX5_moveFault 59 = .ok (.aload_n 0, 1) := dk_42 (dk_at dksX5_moveFault_2 12 rfl rfl)
theorem dX5_moveFault_60 : decode cX5_moveFault 60 = .ok (.invokevirtual 45, 3) := dk_182 0 45 (dk_at dksX5_moveFault_2 13 rfl rfl)
theorem dX5_moveFault_63 : decode cX5_moveFault 63 = .ok (.bipush 8, 2) := dk_16 8 (dk_at dksX5_moveFault_2 16 rfl rfl)
theorem dX5_moveFault_65 : decode cX5_moveFault 65 = .ok (.if_icmp .lt 8, 3) := dk_161 0 8 (dk_at dksX5_moveFault_2 18 rfl rfl)
theorem dX5_moveFault_68 : decode cX5_moveFault 68 = .ok (.ldc 49, 2) := dk_18 49 (dk_at dksX5_moveFault_2 21 rfl rfl)
theorem dX5_moveFault_70 : decode cX5_moveFault 70 = .ok (.goto 4, 3) := dk_167 0 4 (dk_at dksX5_moveFault_3 0 rfl rfl)
theorem dX5_moveFault_73 : decode cX5_moveFault 73 = .ok (.iconst 0, 1) := dk_3 (dk_at dksX5_moveFault_3 3 rfl rfl)
theorem dX5_moveFault_74 : decode cX5_moveFault 74 = .ok (.ireturn, 1) := dk_172 (dk_at dksX5_moveFault_3 4 rfl rfl)
abbrev cX5_inVan : ByteArray := prog_14_method_15_code
def yX5_inVan : MethodName := ⟨RX5, "inVan", "()I"⟩
def dkwX5_inVan_3 : List UInt8 := [167, 0, 4, 3, 96, 172]
abbrev dktX5_inVan_3 : List UInt8 := dkwX5_inVan_3 ++ []
def dkwX5_inVan_2 : List UInt8 := [18, 25, 160, 0, 7, 4, 167, 0, 4, 3, 96, 42, 180, 0, 7, 16, 52, 46, 18, 25, 160, 0, 7, 4]
abbrev dktX5_inVan_2 : List UInt8 := dkwX5_inVan_2 ++ dktX5_inVan_3
def dkwX5_inVan_1 : List UInt8 := [160, 0, 7, 4, 167, 0, 4, 3, 96, 60, 132, 2, 1, 167, 255, 224, 27, 42, 180, 0, 7, 16, 50, 46]
abbrev dktX5_inVan_1 : List UInt8 := dkwX5_inVan_1 ++ dktX5_inVan_2
def dkwX5_inVan_0 : List UInt8 := [3, 60, 3, 61, 28, 16, 10, 162, 0, 32, 27, 42, 180, 0, 7, 28, 3, 184, 0, 33, 46, 18, 25]
abbrev dktX5_inVan_0 : List UInt8 := dkwX5_inVan_0 ++ dktX5_inVan_1
theorem dksX5_inVan_0 : cX5_inVan.data.toList.drop 0 = dktX5_inVan_0 := by decide +kernel
theorem dksX5_inVan_1 : cX5_inVan.data.toList.drop 23 = dktX5_inVan_1 := dk_seg dksX5_inVan_0 23 rfl rfl
theorem dksX5_inVan_2 : cX5_inVan.data.toList.drop 47 = dktX5_inVan_2 := dk_seg dksX5_inVan_1 24 rfl rfl
theorem dksX5_inVan_3 : cX5_inVan.data.toList.drop 71 = dktX5_inVan_3 := dk_seg dksX5_inVan_2 24 rfl rfl
theorem dX5_inVan_0 : decode cX5_inVan 0 = .ok (.iconst 0, 1) := dk_3 (dk_at dksX5_inVan_0 0 rfl rfl)
theorem dX5_inVan_1 : decode cX5_inVan 1 = .ok (.istore_n 1, 1) := dk_60 (dk_at dksX5_inVan_0 1 rfl rfl)
theorem dX5_inVan_2 : decode cX5_inVan 2 = .ok (.iconst 0, 1) := dk_3 (dk_at dksX5_inVan_0 2 rfl rfl)
theorem dX5_inVan_3 : decode cX5_inVan 3 = .ok (.istore_n 2, 1) := dk_61 (dk_at dksX5_inVan_0 3 rfl rfl)
theorem dX5_inVan_4 : decode cX5_inVan 4 = .ok (.iload_n 2, 1) := dk_28 (dk_at dksX5_inVan_0 4 rfl rfl)
theorem dX5_inVan_5 : decode cX5_inVan 5 = .ok (.bipush 10, 2) := dk_16 10 (dk_at dksX5_inVan_0 5 rfl rfl)
theorem dX5_inVan_7 : decode cX5_inVan 7 = .ok (.if_icmp .ge 32, 3) := dk_162 0 32 (dk_at dksX5_inVan_0 7 rfl rfl)
theorem dX5_inVan_10 : decode cX5_inVan 10 = .ok (.iload_n 1, 1) := dk_27 (dk_at dksX5_inVan_0 10 rfl rfl)
theorem dX5_inVan_11 : decode cX5_inVan 11 = .ok (.aload_n 0, 1) := dk_42 (dk_at dksX5_inVan_0 11 rfl rfl)
theorem dX5_inVan_12 : decode cX5_inVan 12 = .ok (.getfield 7, 3) := dk_180 0 7 (dk_at dksX5_inVan_0 12 rfl rfl)
theorem dX5_inVan_15 : decode cX5_inVan 15 = .ok (.iload_n 2, 1) := dk_28 (dk_at dksX5_inVan_0 15 rfl rfl)
theorem dX5_inVan_16 : decode cX5_inVan 16 = .ok (.iconst 0, 1) := dk_3 (dk_at dksX5_inVan_0 16 rfl rfl)
theorem dX5_inVan_17 : decode cX5_inVan 17 = .ok (.invokestatic 33, 3) := dk_184 0 33 (dk_at dksX5_inVan_0 17 rfl rfl)
theorem dX5_inVan_20 : decode cX5_inVan 20 = .ok (.iaload, 1) := dk_46 (dk_at dksX5_inVan_0 20 rfl rfl)
theorem dX5_inVan_21 : decode cX5_inVan 21 = .ok (.ldc 25, 2) := dk_18 25 (dk_at dksX5_inVan_0 21 rfl rfl)
theorem dX5_inVan_23 : decode cX5_inVan 23 = .ok (.if_icmp .ne 7, 3) := dk_160 0 7 (dk_at dksX5_inVan_1 0 rfl rfl)
theorem dX5_inVan_26 : decode cX5_inVan 26 = .ok (.iconst 1, 1) := dk_4 (dk_at dksX5_inVan_1 3 rfl rfl)
theorem dX5_inVan_27 : decode cX5_inVan 27 = .ok (.goto 4, 3) := dk_167 0 4 (dk_at dksX5_inVan_1 4 rfl rfl)
theorem dX5_inVan_30 : decode cX5_inVan 30 = .ok (.iconst 0, 1) := dk_3 (dk_at dksX5_inVan_1 7 rfl rfl)
theorem dX5_inVan_31 : decode cX5_inVan 31 = .ok (.iadd, 1) := dk_96 (dk_at dksX5_inVan_1 8 rfl rfl)
theorem dX5_inVan_32 : decode cX5_inVan 32 = .ok (.istore_n 1, 1) := dk_60 (dk_at dksX5_inVan_1 9 rfl rfl)
theorem dX5_inVan_33 : decode cX5_inVan 33 = .ok (.iinc 2 1, 3) := dk_132 2 1 (dk_at dksX5_inVan_1 10 rfl rfl)
theorem dX5_inVan_36 : decode cX5_inVan 36 = .ok (.goto (-32), 3) := dk_167 255 224 (dk_at dksX5_inVan_1 13 rfl rfl)
theorem dX5_inVan_39 : decode cX5_inVan 39 = .ok (.iload_n 1, 1) := dk_27 (dk_at dksX5_inVan_1 16 rfl rfl)
theorem dX5_inVan_40 : decode cX5_inVan 40 = .ok (.aload_n 0, 1) := dk_42 (dk_at dksX5_inVan_1 17 rfl rfl)
theorem dX5_inVan_41 : decode cX5_inVan 41 = .ok (.getfield 7, 3) := dk_180 0 7 (dk_at dksX5_inVan_1 18 rfl rfl)
theorem dX5_inVan_44 : decode cX5_inVan 44 = .ok (.bipush 50, 2) := dk_16 50 (dk_at dksX5_inVan_1 21 rfl rfl)
theorem dX5_inVan_46 : decode cX5_inVan 46 = .ok (.iaload, 1) := dk_46 (dk_at dksX5_inVan_1 23 rfl rfl)
theorem dX5_inVan_47 : decode cX5_inVan 47 = .ok (.ldc 25, 2) := dk_18 25 (dk_at dksX5_inVan_2 0 rfl rfl)
theorem dX5_inVan_49 : decode cX5_inVan 49 = .ok (.if_icmp .ne 7, 3) := dk_160 0 7 (dk_at dksX5_inVan_2 2 rfl rfl)
theorem dX5_inVan_52 : decode cX5_inVan 52 = .ok (.iconst 1, 1) := dk_4 (dk_at dksX5_inVan_2 5 rfl rfl)
theorem dX5_inVan_53 : decode cX5_inVan 53 = .ok (.goto 4, 3) := dk_167 0 4 (dk_at dksX5_inVan_2 6 rfl rfl)
theorem dX5_inVan_56 : decode cX5_inVan 56 = .ok (.iconst 0, 1) := dk_3 (dk_at dksX5_inVan_2 9 rfl rfl)
theorem dX5_inVan_57 : decode cX5_inVan 57 = .ok (.iadd, 1) := dk_96 (dk_at dksX5_inVan_2 10 rfl rfl)
theorem dX5_inVan_58 : decode cX5_inVan 58 = .ok (.aload_n 0, 1) := dk_42 (dk_at dksX5_inVan_2 11 rfl rfl)
theorem dX5_inVan_59 : decode cX5_inVan 59 = .ok (.getfield 7, 3) := dk_180 0 7 (dk_at dksX5_inVan_2 12 rfl rfl)
theorem dX5_inVan_62 : decode cX5_inVan 62 = .ok (.bipush 52, 2) := dk_16 52 (dk_at dksX5_inVan_2 15 rfl rfl)
theorem dX5_inVan_64 : decode cX5_inVan 64 = .ok (.iaload, 1) := dk_46 (dk_at dksX5_inVan_2 17 rfl rfl)
theorem dX5_inVan_65 : decode cX5_inVan 65 = .ok (.ldc 25, 2) := dk_18 25 (dk_at dksX5_inVan_2 18 rfl rfl)
theorem dX5_inVan_67 : decode cX5_inVan 67 = .ok (.if_icmp .ne 7, 3) := dk_160 0 7 (dk_at dksX5_inVan_2 20 rfl rfl)
theorem dX5_inVan_70 : decode cX5_inVan 70 = .ok (.iconst 1, 1) := dk_4 (dk_at dksX5_inVan_2 23 rfl rfl)
theorem dX5_inVan_71 : decode cX5_inVan 71 = .ok (.goto 4, 3) := dk_167 0 4 (dk_at dksX5_inVan_3 0 rfl rfl)
theorem dX5_inVan_74 : decode cX5_inVan 74 = .ok (.iconst 0, 1) := dk_3 (dk_at dksX5_inVan_3 3 rfl rfl)
theorem dX5_inVan_75 : decode cX5_inVan 75 = .ok (.iadd, 1) := dk_96 (dk_at dksX5_inVan_3 4 rfl rfl)
theorem dX5_inVan_76 : decode cX5_inVan 76 = .ok (.ireturn, 1) := dk_172 (dk_at dksX5_inVan_3 5 rfl rfl)
abbrev cX5_moves : ByteArray := prog_14_method_17_code
def yX5_moves : MethodName := ⟨RX5, "moves", "(IZ)I"⟩
def dkwX5_moves_1 : List UInt8 := [182, 0, 45, 172]
abbrev dktX5_moves_1 : List UInt8 := dkwX5_moves_1 ++ []
def dkwX5_moves_0 : List UInt8 := [42, 180, 0, 7, 27, 28, 153, 0, 8, 18, 25, 167, 0, 10, 42, 180, 0, 7, 16, 54, 46, 79, 42]
abbrev dktX5_moves_0 : List UInt8 := dkwX5_moves_0 ++ dktX5_moves_1
theorem dksX5_moves_0 : cX5_moves.data.toList.drop 0 = dktX5_moves_0 := by decide +kernel
theorem dksX5_moves_1 : cX5_moves.data.toList.drop 23 = dktX5_moves_1 := dk_seg dksX5_moves_0 23 rfl rfl
theorem dX5_moves_0 : decode cX5_moves 0 = .ok (.aload_n 0, 1) := dk_42 (dk_at dksX5_moves_0 0 rfl rfl)
theorem dX5_moves_1 : decode cX5_moves 1 = .ok (.getfield 7, 3) := dk_180 0 7 (dk_at dksX5_moves_0 1 rfl rfl)
theorem dX5_moves_4 : decode cX5_moves 4 = .ok (.iload_n 1, 1) := dk_27 (dk_at dksX5_moves_0 4 rfl rfl)
theorem dX5_moves_5 : decode cX5_moves 5 = .ok (.iload_n 2, 1) := dk_28 (dk_at dksX5_moves_0 5 rfl rfl)
theorem dX5_moves_6 : decode cX5_moves 6 = .ok (.ifCond .eq 8, 3) := dk_153 0 8 (dk_at dksX5_moves_0 6 rfl rfl)
theorem dX5_moves_9 : decode cX5_moves 9 = .ok (.ldc 25, 2) := dk_18 25 (dk_at dksX5_moves_0 9 rfl rfl)
theorem dX5_moves_11 : decode cX5_moves 11 = .ok (.goto 10, 3) := dk_167 0 10 (dk_at dksX5_moves_0 11 rfl rfl)
theorem dX5_moves_14 : decode cX5_moves 14 = .ok (.aload_n 0, 1) := dk_42 (dk_at dksX5_moves_0 14 rfl rfl)
theorem dX5_moves_15 : decode cX5_moves 15 = .ok (.getfield 7, 3) := dk_180 0 7 (dk_at dksX5_moves_0 15 rfl rfl)
theorem dX5_moves_18 : decode cX5_moves 18 = .ok (.bipush 54, 2) := dk_16 54 (dk_at dksX5_moves_0 18 rfl rfl)
theorem dX5_moves_20 : decode cX5_moves 20 = .ok (.iaload, 1) := dk_46 (dk_at dksX5_moves_0 20 rfl rfl)
theorem dX5_moves_21 : decode cX5_moves 21 = .ok (.iastore, 1) := dk_79 (dk_at dksX5_moves_0 21 rfl rfl)
theorem dX5_moves_22 : decode cX5_moves 22 = .ok (.aload_n 0, 1) := dk_42 (dk_at dksX5_moves_0 22 rfl rfl)
theorem dX5_moves_23 : decode cX5_moves 23 = .ok (.invokevirtual 45, 3) := dk_182 0 45 (dk_at dksX5_moves_1 0 rfl rfl)
theorem dX5_moves_26 : decode cX5_moves 26 = .ok (.ireturn, 1) := dk_172 (dk_at dksX5_moves_1 3 rfl rfl)
abbrev cX5_moveGenerator : ByteArray := prog_14_method_32_code
def yX5_moveGenerator : MethodName := ⟨RX5, "moveGenerator", "(IZ)I"⟩
def dkwX5_moveGenerator_1 : List UInt8 := [182, 0, 99, 172]
abbrev dktX5_moveGenerator_1 : List UInt8 := dkwX5_moveGenerator_1 ++ []
def dkwX5_moveGenerator_0 : List UInt8 := [27, 184, 0, 54, 62, 42, 29, 29, 153, 0, 12, 16, 50, 5, 27, 104, 96, 167, 0, 4, 3, 28]
abbrev dktX5_moveGenerator_0 : List UInt8 := dkwX5_moveGenerator_0 ++ dktX5_moveGenerator_1
theorem dksX5_moveGenerator_0 : cX5_moveGenerator.data.toList.drop 0 = dktX5_moveGenerator_0 := by decide +kernel
theorem dksX5_moveGenerator_1 : cX5_moveGenerator.data.toList.drop 22 = dktX5_moveGenerator_1 := dk_seg dksX5_moveGenerator_0 22 rfl rfl
theorem dX5_moveGenerator_0 : decode cX5_moveGenerator 0 = .ok (.iload_n 1, 1) := dk_27 (dk_at dksX5_moveGenerator_0 0 rfl rfl)
theorem dX5_moveGenerator_1 : decode cX5_moveGenerator 1 = .ok (.invokestatic 54, 3) := dk_184 0 54 (dk_at dksX5_moveGenerator_0 1 rfl rfl)
theorem dX5_moveGenerator_4 : decode cX5_moveGenerator 4 = .ok (.istore_n 3, 1) := dk_62 (dk_at dksX5_moveGenerator_0 4 rfl rfl)
theorem dX5_moveGenerator_5 : decode cX5_moveGenerator 5 = .ok (.aload_n 0, 1) := dk_42 (dk_at dksX5_moveGenerator_0 5 rfl rfl)
theorem dX5_moveGenerator_6 : decode cX5_moveGenerator 6 = .ok (.iload_n 3, 1) := dk_29 (dk_at dksX5_moveGenerator_0 6 rfl rfl)
theorem dX5_moveGenerator_7 : decode cX5_moveGenerator 7 = .ok (.iload_n 3, 1) := dk_29 (dk_at dksX5_moveGenerator_0 7 rfl rfl)
theorem dX5_moveGenerator_8 : decode cX5_moveGenerator 8 = .ok (.ifCond .eq 12, 3) := dk_153 0 12 (dk_at dksX5_moveGenerator_0 8 rfl rfl)
theorem dX5_moveGenerator_11 : decode cX5_moveGenerator 11 = .ok (.bipush 50, 2) := dk_16 50 (dk_at dksX5_moveGenerator_0 11 rfl rfl)
theorem dX5_moveGenerator_13 : decode cX5_moveGenerator 13 = .ok (.iconst 2, 1) := dk_5 (dk_at dksX5_moveGenerator_0 13 rfl rfl)
theorem dX5_moveGenerator_14 : decode cX5_moveGenerator 14 = .ok (.iload_n 1, 1) := dk_27 (dk_at dksX5_moveGenerator_0 14 rfl rfl)
theorem dX5_moveGenerator_15 : decode cX5_moveGenerator 15 = .ok (.imul, 1) := dk_104 (dk_at dksX5_moveGenerator_0 15 rfl rfl)
theorem dX5_moveGenerator_16 : decode cX5_moveGenerator 16 = .ok (.iadd, 1) := dk_96 (dk_at dksX5_moveGenerator_0 16 rfl rfl)
theorem dX5_moveGenerator_17 : decode cX5_moveGenerator 17 = .ok (.goto 4, 3) := dk_167 0 4 (dk_at dksX5_moveGenerator_0 17 rfl rfl)
theorem dX5_moveGenerator_20 : decode cX5_moveGenerator 20 = .ok (.iconst 0, 1) := dk_3 (dk_at dksX5_moveGenerator_0 20 rfl rfl)
theorem dX5_moveGenerator_21 : decode cX5_moveGenerator 21 = .ok (.iload_n 2, 1) := dk_28 (dk_at dksX5_moveGenerator_0 21 rfl rfl)
theorem dX5_moveGenerator_22 : decode cX5_moveGenerator 22 = .ok (.invokevirtual 99, 3) := dk_182 0 99 (dk_at dksX5_moveGenerator_1 0 rfl rfl)
theorem dX5_moveGenerator_25 : decode cX5_moveGenerator 25 = .ok (.ireturn, 1) := dk_172 (dk_at dksX5_moveGenerator_1 3 rfl rfl)
abbrev cX5_isGenerator : ByteArray := prog_14_method_7_code
def yX5_isGenerator : MethodName := ⟨RX5, "isGenerator", "(I)Z"⟩
def dkwX5_isGenerator_0 : List UInt8 := [26, 3, 4, 184, 0, 37, 172]
abbrev dktX5_isGenerator_0 : List UInt8 := dkwX5_isGenerator_0 ++ []
theorem dksX5_isGenerator_0 : cX5_isGenerator.data.toList.drop 0 = dktX5_isGenerator_0 := by decide +kernel
theorem dX5_isGenerator_0 : decode cX5_isGenerator 0 = .ok (.iload_n 0, 1) := dk_26 (dk_at dksX5_isGenerator_0 0 rfl rfl)
theorem dX5_isGenerator_1 : decode cX5_isGenerator 1 = .ok (.iconst 0, 1) := dk_3 (dk_at dksX5_isGenerator_0 1 rfl rfl)
theorem dX5_isGenerator_2 : decode cX5_isGenerator 2 = .ok (.iconst 1, 1) := dk_4 (dk_at dksX5_isGenerator_0 2 rfl rfl)
theorem dX5_isGenerator_3 : decode cX5_isGenerator 3 = .ok (.invokestatic 37, 3) := dk_184 0 37 (dk_at dksX5_isGenerator_0 3 rfl rfl)
theorem dX5_isGenerator_6 : decode cX5_isGenerator 6 = .ok (.ireturn, 1) := dk_172 (dk_at dksX5_isGenerator_0 6 rfl rfl)
abbrev cX5_fuel : ByteArray := prog_14_method_33_code
def yX5_fuel : MethodName := ⟨RX5, "fuel", "(II)I"⟩
def dkwX5_fuel_0 : List UInt8 := [42, 27, 28, 182, 0, 103, 62, 29, 156, 0, 5, 29, 172, 42, 182, 0, 83, 42, 27, 28, 182, 0, 106, 172]
abbrev dktX5_fuel_0 : List UInt8 := dkwX5_fuel_0 ++ []
theorem dksX5_fuel_0 : cX5_fuel.data.toList.drop 0 = dktX5_fuel_0 := by decide +kernel
theorem dX5_fuel_0 : decode cX5_fuel 0 = .ok (.aload_n 0, 1) := dk_42 (dk_at dksX5_fuel_0 0 rfl rfl)
theorem dX5_fuel_1 : decode cX5_fuel 1 = .ok (.iload_n 1, 1) := dk_27 (dk_at dksX5_fuel_0 1 rfl rfl)
theorem dX5_fuel_2 : decode cX5_fuel 2 = .ok (.iload_n 2, 1) := dk_28 (dk_at dksX5_fuel_0 2 rfl rfl)
theorem dX5_fuel_3 : decode cX5_fuel 3 = .ok (.invokevirtual 103, 3) := dk_182 0 103 (dk_at dksX5_fuel_0 3 rfl rfl)
theorem dX5_fuel_6 : decode cX5_fuel 6 = .ok (.istore_n 3, 1) := dk_62 (dk_at dksX5_fuel_0 6 rfl rfl)
theorem dX5_fuel_7 : decode cX5_fuel 7 = .ok (.iload_n 3, 1) := dk_29 (dk_at dksX5_fuel_0 7 rfl rfl)
theorem dX5_fuel_8 : decode cX5_fuel 8 = .ok (.ifCond .ge 5, 3) := dk_156 0 5 (dk_at dksX5_fuel_0 8 rfl rfl)
theorem dX5_fuel_11 : decode cX5_fuel 11 = .ok (.iload_n 3, 1) := dk_29 (dk_at dksX5_fuel_0 11 rfl rfl)
theorem dX5_fuel_12 : decode cX5_fuel 12 = .ok (.ireturn, 1) := dk_172 (dk_at dksX5_fuel_0 12 rfl rfl)
theorem dX5_fuel_13 : decode cX5_fuel 13 = .ok (.aload_n 0, 1) := dk_42 (dk_at dksX5_fuel_0 13 rfl rfl)
theorem dX5_fuel_14 : decode cX5_fuel 14 = .ok (.invokevirtual 83, 3) := dk_182 0 83 (dk_at dksX5_fuel_0 14 rfl rfl)
theorem dX5_fuel_17 : decode cX5_fuel 17 = .ok (.aload_n 0, 1) := dk_42 (dk_at dksX5_fuel_0 17 rfl rfl)
theorem dX5_fuel_18 : decode cX5_fuel 18 = .ok (.iload_n 1, 1) := dk_27 (dk_at dksX5_fuel_0 18 rfl rfl)
theorem dX5_fuel_19 : decode cX5_fuel 19 = .ok (.iload_n 2, 1) := dk_28 (dk_at dksX5_fuel_0 19 rfl rfl)
theorem dX5_fuel_20 : decode cX5_fuel 20 = .ok (.invokevirtual 106, 3) := dk_182 0 106 (dk_at dksX5_fuel_0 20 rfl rfl)
theorem dX5_fuel_23 : decode cX5_fuel 23 = .ok (.ireturn, 1) := dk_172 (dk_at dksX5_fuel_0 23 rfl rfl)
abbrev cX5_fuelFault : ByteArray := prog_14_method_19_code
def yX5_fuelFault : MethodName := ⟨RX5, "fuelFault", "(II)I"⟩
def dkwX5_fuelFault_3 : List UInt8 := [18, 49, 167, 0, 4, 3, 172]
abbrev dktX5_fuelFault_3 : List UInt8 := dkwX5_fuelFault_3 ++ []
def dkwX5_fuelFault_2 : List UInt8 := [167, 0, 30, 42, 180, 0, 7, 16, 50, 5, 27, 104, 96, 4, 96, 46, 28, 96, 17, 1, 244, 164, 0, 8]
abbrev dktX5_fuelFault_2 : List UInt8 := dkwX5_fuelFault_2 ++ dktX5_fuelFault_3
def dkwX5_fuelFault_1 : List UInt8 := [153, 0, 6, 18, 59, 172, 42, 180, 0, 7, 16, 50, 5, 27, 104, 96, 46, 18, 25, 159, 0, 8, 18, 44]
abbrev dktX5_fuelFault_1 : List UInt8 := dkwX5_fuelFault_1 ++ dktX5_fuelFault_2
def dkwX5_fuelFault_0 : List UInt8 := [27, 184, 0, 54, 154, 0, 6, 18, 58, 172, 28, 8, 17, 1, 244, 184, 0, 37, 153, 0, 9, 28, 8, 112]
abbrev dktX5_fuelFault_0 : List UInt8 := dkwX5_fuelFault_0 ++ dktX5_fuelFault_1
theorem dksX5_fuelFault_0 : cX5_fuelFault.data.toList.drop 0 = dktX5_fuelFault_0 := by decide +kernel
theorem dksX5_fuelFault_1 : cX5_fuelFault.data.toList.drop 24 = dktX5_fuelFault_1 := dk_seg dksX5_fuelFault_0 24 rfl rfl
theorem dksX5_fuelFault_2 : cX5_fuelFault.data.toList.drop 48 = dktX5_fuelFault_2 := dk_seg dksX5_fuelFault_1 24 rfl rfl
theorem dksX5_fuelFault_3 : cX5_fuelFault.data.toList.drop 72 = dktX5_fuelFault_3 := dk_seg dksX5_fuelFault_2 24 rfl rfl
theorem dX5_fuelFault_0 : decode cX5_fuelFault 0 = .ok (.iload_n 1, 1) := dk_27 (dk_at dksX5_fuelFault_0 0 rfl rfl)
theorem dX5_fuelFault_1 : decode cX5_fuelFault 1 = .ok (.invokestatic 54, 3) := dk_184 0 54 (dk_at dksX5_fuelFault_0 1 rfl rfl)
theorem dX5_fuelFault_4 : decode cX5_fuelFault 4 = .ok (.ifCond .ne 6, 3) := dk_154 0 6 (dk_at dksX5_fuelFault_0 4 rfl rfl)
theorem dX5_fuelFault_7 : decode cX5_fuelFault 7 = .ok (.ldc 58, 2) := dk_18 58 (dk_at dksX5_fuelFault_0 7 rfl rfl)
theorem dX5_fuelFault_9 : decode cX5_fuelFault 9 = .ok (.ireturn, 1) := dk_172 (dk_at dksX5_fuelFault_0 9 rfl rfl)
theorem dX5_fuelFault_10 : decode cX5_fuelFault 10 = .ok (.iload_n 2, 1) := dk_28 (dk_at dksX5_fuelFault_0 10 rfl rfl)
theorem dX5_fuelFault_11 : decode cX5_fuelFault 11 = .ok (.iconst 5, 1) := dk_8 (dk_at dksX5_fuelFault_0 11 rfl rfl)
theorem dX5_fuelFault_12 : decode cX5_fuelFault 12 = .ok (.sipush 500, 3) := dk_17 1 244 (dk_at dksX5_fuelFault_0 12 rfl rfl)
theorem dX5_fuelFault_15 : decode cX5_fuelFault 15 = .ok (.invokestatic 37, 3) := dk_184 0 37 (dk_at dksX5_fuelFault_0 15 rfl rfl)
theorem dX5_fuelFault_18 : decode cX5_fuelFault 18 = .ok (.ifCond .eq 9, 3) := dk_153 0 9 (dk_at dksX5_fuelFault_0 18 rfl rfl)
theorem dX5_fuelFault_21 : decode cX5_fuelFault 21 = .ok (.iload_n 2, 1) := dk_28 (dk_at dksX5_fuelFault_0 21 rfl rfl)
theorem dX5_fuelFault_22 : decode cX5_fuelFault 22 = .ok (.iconst 5, 1) := dk_8 (dk_at dksX5_fuelFault_0 22 rfl rfl)
theorem dX5_fuelFault_23 : decode cX5_fuelFault 23 = .ok (.irem, 1) := dk_112 (dk_at dksX5_fuelFault_0 23 rfl rfl)
theorem dX5_fuelFault_24 : decode cX5_fuelFault 24 = .ok (.ifCond .eq 6, 3) := dk_153 0 6 (dk_at dksX5_fuelFault_1 0 rfl rfl)
theorem dX5_fuelFault_27 : decode cX5_fuelFault 27 = .ok (.ldc 59, 2) := dk_18 59 (dk_at dksX5_fuelFault_1 3 rfl rfl)
theorem dX5_fuelFault_29 : decode cX5_fuelFault 29 = .ok (.ireturn, 1) := dk_172 (dk_at dksX5_fuelFault_1 5 rfl rfl)
theorem dX5_fuelFault_30 : decode cX5_fuelFault 30 = .ok (.aload_n 0, 1) := dk_42 (dk_at dksX5_fuelFault_1 6 rfl rfl)
theorem dX5_fuelFault_31 : decode cX5_fuelFault 31 = .ok (.getfield 7, 3) := dk_180 0 7 (dk_at dksX5_fuelFault_1 7 rfl rfl)
theorem dX5_fuelFault_34 : decode cX5_fuelFault 34 = .ok (.bipush 50, 2) := dk_16 50 (dk_at dksX5_fuelFault_1 10 rfl rfl)
theorem dX5_fuelFault_36 : decode cX5_fuelFault 36 = .ok (.iconst 2, 1) := dk_5 (dk_at dksX5_fuelFault_1 12 rfl rfl)
theorem dX5_fuelFault_37 : decode cX5_fuelFault 37 = .ok (.iload_n 1, 1) := dk_27 (dk_at dksX5_fuelFault_1 13 rfl rfl)
theorem dX5_fuelFault_38 : decode cX5_fuelFault 38 = .ok (.imul, 1) := dk_104 (dk_at dksX5_fuelFault_1 14 rfl rfl)
theorem dX5_fuelFault_39 : decode cX5_fuelFault 39 = .ok (.iadd, 1) := dk_96 (dk_at dksX5_fuelFault_1 15 rfl rfl)
theorem dX5_fuelFault_40 : decode cX5_fuelFault 40 = .ok (.iaload, 1) := dk_46 (dk_at dksX5_fuelFault_1 16 rfl rfl)
theorem dX5_fuelFault_41 : decode cX5_fuelFault 41 = .ok (.ldc 25, 2) := dk_18 25 (dk_at dksX5_fuelFault_1 17 rfl rfl)
theorem dX5_fuelFault_43 : decode cX5_fuelFault 43 = .ok (.if_icmp .eq 8, 3) := dk_159 0 8 (dk_at dksX5_fuelFault_1 19 rfl rfl)
theorem dX5_fuelFault_46 : decode cX5_fuelFault 46 = .ok (.ldc 44, 2) := dk_18 44 (dk_at dksX5_fuelFault_1 22 rfl rfl)
theorem dX5_fuelFault_48 : decode cX5_fuelFault 48 = .ok (.goto 30, 3) := dk_167 0 30 (dk_at dksX5_fuelFault_2 0 rfl rfl)
theorem dX5_fuelFault_51 : decode cX5_fuelFault 51 = .ok (.aload_n 0, 1) := dk_42 (dk_at dksX5_fuelFault_2 3 rfl rfl)
theorem dX5_fuelFault_52 : decode cX5_fuelFault 52 = .ok (.getfield 7, 3) := dk_180 0 7 (dk_at dksX5_fuelFault_2 4 rfl rfl)
theorem dX5_fuelFault_55 : decode cX5_fuelFault 55 = .ok (.bipush 50, 2) := dk_16 50 (dk_at dksX5_fuelFault_2 7 rfl rfl)
theorem dX5_fuelFault_57 : decode cX5_fuelFault 57 = .ok (.iconst 2, 1) := dk_5 (dk_at dksX5_fuelFault_2 9 rfl rfl)
theorem dX5_fuelFault_58 : decode cX5_fuelFault 58 = .ok (.iload_n 1, 1) := dk_27 (dk_at dksX5_fuelFault_2 10 rfl rfl)
theorem dX5_fuelFault_59 : decode cX5_fuelFault 59 = .ok (.imul, 1) := dk_104 (dk_at dksX5_fuelFault_2 11 rfl rfl)
theorem dX5_fuelFault_60 : decode cX5_fuelFault 60 = .ok (.iadd, 1) := dk_96 (dk_at dksX5_fuelFault_2 12 rfl rfl)
theorem dX5_fuelFault_61 : decode cX5_fuelFault 61 = .ok (.iconst 1, 1) := dk_4 (dk_at dksX5_fuelFault_2 13 rfl rfl)
theorem dX5_fuelFault_62 : decode cX5_fuelFault 62 = .ok (.iadd, 1) := dk_96 (dk_at dksX5_fuelFault_2 14 rfl rfl)
theorem dX5_fuelFault_63 : decode cX5_fuelFault 63 = .ok (.iaload, 1) := dk_46 (dk_at dksX5_fuelFault_2 15 rfl rfl)
theorem dX5_fuelFault_64 : decode cX5_fuelFault 64 = .ok (.iload_n 2, 1) := dk_28 (dk_at dksX5_fuelFault_2 16 rfl rfl)
theorem dX5_fuelFault_65 : decode cX5_fuelFault 65 = .ok (.iadd, 1) := dk_96 (dk_at dksX5_fuelFault_2 17 rfl rfl)
theorem dX5_fuelFault_66 : decode cX5_fuelFault 66 = .ok (.sipush 500, 3) := dk_17 1 244 (dk_at dksX5_fuelFault_2 18 rfl rfl)
theorem dX5_fuelFault_69 : decode cX5_fuelFault 69 = .ok (.if_icmp .le 8, 3) := dk_164 0 8 (dk_at dksX5_fuelFault_2 21 rfl rfl)
theorem dX5_fuelFault_72 : decode cX5_fuelFault 72 = .ok (.ldc 49, 2) := dk_18 49 (dk_at dksX5_fuelFault_3 0 rfl rfl)
theorem dX5_fuelFault_74 : decode cX5_fuelFault 74 = .ok (.goto 4, 3) := dk_167 0 4 (dk_at dksX5_fuelFault_3 2 rfl rfl)
theorem dX5_fuelFault_77 : decode cX5_fuelFault 77 = .ok (.iconst 0, 1) := dk_3 (dk_at dksX5_fuelFault_3 5 rfl rfl)
theorem dX5_fuelFault_78 : decode cX5_fuelFault 78 = .ok (.ireturn, 1) := dk_172 (dk_at dksX5_fuelFault_3 6 rfl rfl)
abbrev cX5_fuels : ByteArray := prog_14_method_20_code
def yX5_fuels : MethodName := ⟨RX5, "fuels", "(II)I"⟩
def dkwX5_fuels_1 : List UInt8 := [96, 92, 46, 28, 96, 79, 42, 180, 0, 7, 16, 50, 5, 27, 104, 96, 4, 96, 46, 172]
abbrev dktX5_fuels_1 : List UInt8 := dkwX5_fuels_1 ++ []
def dkwX5_fuels_0 : List UInt8 := [42, 180, 0, 7, 16, 73, 92, 46, 28, 8, 108, 96, 79, 42, 180, 0, 7, 16, 50, 5, 27, 104, 96, 4]
abbrev dktX5_fuels_0 : List UInt8 := dkwX5_fuels_0 ++ dktX5_fuels_1
theorem dksX5_fuels_0 : cX5_fuels.data.toList.drop 0 = dktX5_fuels_0 := by decide +kernel
theorem dksX5_fuels_1 : cX5_fuels.data.toList.drop 24 = dktX5_fuels_1 := dk_seg dksX5_fuels_0 24 rfl rfl
theorem dX5_fuels_0 : decode cX5_fuels 0 = .ok (.aload_n 0, 1) := dk_42 (dk_at dksX5_fuels_0 0 rfl rfl)
theorem dX5_fuels_1 : decode cX5_fuels 1 = .ok (.getfield 7, 3) := dk_180 0 7 (dk_at dksX5_fuels_0 1 rfl rfl)
theorem dX5_fuels_4 : decode cX5_fuels 4 = .ok (.bipush 73, 2) := dk_16 73 (dk_at dksX5_fuels_0 4 rfl rfl)
theorem dX5_fuels_6 : decode cX5_fuels 6 = .ok (.dup2, 1) := dk_92 (dk_at dksX5_fuels_0 6 rfl rfl)
theorem dX5_fuels_7 : decode cX5_fuels 7 = .ok (.iaload, 1) := dk_46 (dk_at dksX5_fuels_0 7 rfl rfl)
theorem dX5_fuels_8 : decode cX5_fuels 8 = .ok (.iload_n 2, 1) := dk_28 (dk_at dksX5_fuels_0 8 rfl rfl)
theorem dX5_fuels_9 : decode cX5_fuels 9 = .ok (.iconst 5, 1) := dk_8 (dk_at dksX5_fuels_0 9 rfl rfl)
theorem dX5_fuels_10 : decode cX5_fuels 10 = .ok (.idiv, 1) := dk_108 (dk_at dksX5_fuels_0 10 rfl rfl)
theorem dX5_fuels_11 : decode cX5_fuels 11 = .ok (.iadd, 1) := dk_96 (dk_at dksX5_fuels_0 11 rfl rfl)
theorem dX5_fuels_12 : decode cX5_fuels 12 = .ok (.iastore, 1) := dk_79 (dk_at dksX5_fuels_0 12 rfl rfl)
theorem dX5_fuels_13 : decode cX5_fuels 13 = .ok (.aload_n 0, 1) := dk_42 (dk_at dksX5_fuels_0 13 rfl rfl)
theorem dX5_fuels_14 : decode cX5_fuels 14 = .ok (.getfield 7, 3) := dk_180 0 7 (dk_at dksX5_fuels_0 14 rfl rfl)
theorem dX5_fuels_17 : decode cX5_fuels 17 = .ok (.bipush 50, 2) := dk_16 50 (dk_at dksX5_fuels_0 17 rfl rfl)
theorem dX5_fuels_19 : decode cX5_fuels 19 = .ok (.iconst 2, 1) := dk_5 (dk_at dksX5_fuels_0 19 rfl rfl)
theorem dX5_fuels_20 : decode cX5_fuels 20 = .ok (.iload_n 1, 1) := dk_27 (dk_at dksX5_fuels_0 20 rfl rfl)
theorem dX5_fuels_21 : decode cX5_fuels 21 = .ok (.imul, 1) := dk_104 (dk_at dksX5_fuels_0 21 rfl rfl)
theorem dX5_fuels_22 : decode cX5_fuels 22 = .ok (.iadd, 1) := dk_96 (dk_at dksX5_fuels_0 22 rfl rfl)
theorem dX5_fuels_23 : decode cX5_fuels 23 = .ok (.iconst 1, 1) := dk_4 (dk_at dksX5_fuels_0 23 rfl rfl)
theorem dX5_fuels_24 : decode cX5_fuels 24 = .ok (.iadd, 1) := dk_96 (dk_at dksX5_fuels_1 0 rfl rfl)
theorem dX5_fuels_25 : decode cX5_fuels 25 = .ok (.dup2, 1) := dk_92 (dk_at dksX5_fuels_1 1 rfl rfl)
theorem dX5_fuels_26 : decode cX5_fuels 26 = .ok (.iaload, 1) := dk_46 (dk_at dksX5_fuels_1 2 rfl rfl)
theorem dX5_fuels_27 : decode cX5_fuels 27 = .ok (.iload_n 2, 1) := dk_28 (dk_at dksX5_fuels_1 3 rfl rfl)
theorem dX5_fuels_28 : decode cX5_fuels 28 = .ok (.iadd, 1) := dk_96 (dk_at dksX5_fuels_1 4 rfl rfl)
theorem dX5_fuels_29 : decode cX5_fuels 29 = .ok (.iastore, 1) := dk_79 (dk_at dksX5_fuels_1 5 rfl rfl)
theorem dX5_fuels_30 : decode cX5_fuels 30 = .ok (.aload_n 0, 1) := dk_42 (dk_at dksX5_fuels_1 6 rfl rfl)
theorem dX5_fuels_31 : decode cX5_fuels 31 = .ok (.getfield 7, 3) := dk_180 0 7 (dk_at dksX5_fuels_1 7 rfl rfl)
theorem dX5_fuels_34 : decode cX5_fuels 34 = .ok (.bipush 50, 2) := dk_16 50 (dk_at dksX5_fuels_1 10 rfl rfl)
theorem dX5_fuels_36 : decode cX5_fuels 36 = .ok (.iconst 2, 1) := dk_5 (dk_at dksX5_fuels_1 12 rfl rfl)
theorem dX5_fuels_37 : decode cX5_fuels 37 = .ok (.iload_n 1, 1) := dk_27 (dk_at dksX5_fuels_1 13 rfl rfl)
theorem dX5_fuels_38 : decode cX5_fuels 38 = .ok (.imul, 1) := dk_104 (dk_at dksX5_fuels_1 14 rfl rfl)
theorem dX5_fuels_39 : decode cX5_fuels 39 = .ok (.iadd, 1) := dk_96 (dk_at dksX5_fuels_1 15 rfl rfl)
theorem dX5_fuels_40 : decode cX5_fuels 40 = .ok (.iconst 1, 1) := dk_4 (dk_at dksX5_fuels_1 16 rfl rfl)
theorem dX5_fuels_41 : decode cX5_fuels 41 = .ok (.iadd, 1) := dk_96 (dk_at dksX5_fuels_1 17 rfl rfl)
theorem dX5_fuels_42 : decode cX5_fuels 42 = .ok (.iaload, 1) := dk_46 (dk_at dksX5_fuels_1 18 rfl rfl)
theorem dX5_fuels_43 : decode cX5_fuels 43 = .ok (.ireturn, 1) := dk_172 (dk_at dksX5_fuels_1 19 rfl rfl)
abbrev cX5_renew : ByteArray := prog_14_method_34_code
def yX5_renew : MethodName := ⟨RX5, "renew", "(I)I"⟩
def dkwX5_renew_4 : List UInt8 := [27, 96, 172]
abbrev dktX5_renew_4 : List UInt8 := dkwX5_renew_4 ++ []
def dkwX5_renew_3 : List UInt8 := [42, 180, 0, 7, 27, 6, 184, 0, 33, 3, 79, 42, 180, 0, 7, 27, 7, 184, 0, 33, 3, 79, 16, 8]
abbrev dktX5_renew_3 : List UInt8 := dkwX5_renew_3 ++ dktX5_renew_4
def dkwX5_renew_2 : List UInt8 := [180, 0, 7, 27, 4, 184, 0, 33, 16, 8, 27, 96, 79, 42, 180, 0, 7, 27, 5, 184, 0, 33, 3, 79]
abbrev dktX5_renew_2 : List UInt8 := dkwX5_renew_2 ++ dktX5_renew_3
def dkwX5_renew_1 : List UInt8 := [159, 0, 6, 18, 44, 172, 42, 182, 0, 83, 42, 180, 0, 7, 16, 74, 92, 46, 16, 30, 96, 79, 42]
abbrev dktX5_renew_1 : List UInt8 := dkwX5_renew_1 ++ dktX5_renew_2
def dkwX5_renew_0 : List UInt8 := [42, 27, 182, 0, 96, 154, 0, 6, 18, 58, 172, 42, 180, 0, 7, 27, 3, 184, 0, 33, 46, 18, 25]
abbrev dktX5_renew_0 : List UInt8 := dkwX5_renew_0 ++ dktX5_renew_1
theorem dksX5_renew_0 : cX5_renew.data.toList.drop 0 = dktX5_renew_0 := by decide +kernel
theorem dksX5_renew_1 : cX5_renew.data.toList.drop 23 = dktX5_renew_1 := dk_seg dksX5_renew_0 23 rfl rfl
theorem dksX5_renew_2 : cX5_renew.data.toList.drop 46 = dktX5_renew_2 := dk_seg dksX5_renew_1 23 rfl rfl
theorem dksX5_renew_3 : cX5_renew.data.toList.drop 70 = dktX5_renew_3 := dk_seg dksX5_renew_2 24 rfl rfl
theorem dksX5_renew_4 : cX5_renew.data.toList.drop 94 = dktX5_renew_4 := dk_seg dksX5_renew_3 24 rfl rfl
theorem dX5_renew_0 : decode cX5_renew 0 = .ok (.aload_n 0, 1) := dk_42 (dk_at dksX5_renew_0 0 rfl rfl)
theorem dX5_renew_1 : decode cX5_renew 1 = .ok (.iload_n 1, 1) := dk_27 (dk_at dksX5_renew_0 1 rfl rfl)
theorem dX5_renew_2 : decode cX5_renew 2 = .ok (.invokevirtual 96, 3) := dk_182 0 96 (dk_at dksX5_renew_0 2 rfl rfl)
theorem dX5_renew_5 : decode cX5_renew 5 = .ok (.ifCond .ne 6, 3) := dk_154 0 6 (dk_at dksX5_renew_0 5 rfl rfl)
theorem dX5_renew_8 : decode cX5_renew 8 = .ok (.ldc 58, 2) := dk_18 58 (dk_at dksX5_renew_0 8 rfl rfl)
theorem dX5_renew_10 : decode cX5_renew 10 = .ok (.ireturn, 1) := dk_172 (dk_at dksX5_renew_0 10 rfl rfl)
theorem dX5_renew_11 : decode cX5_renew 11 = .ok (.aload_n 0, 1) := dk_42 (dk_at dksX5_renew_0 11 rfl rfl)
theorem dX5_renew_12 : decode cX5_renew 12 = .ok (.getfield 7, 3) := dk_180 0 7 (dk_at dksX5_renew_0 12 rfl rfl)
theorem dX5_renew_15 : decode cX5_renew 15 = .ok (.iload_n 1, 1) := dk_27 (dk_at dksX5_renew_0 15 rfl rfl)
theorem dX5_renew_16 : decode cX5_renew 16 = .ok (.iconst 0, 1) := dk_3 (dk_at dksX5_renew_0 16 rfl rfl)
theorem dX5_renew_17 : decode cX5_renew 17 = .ok (.invokestatic 33, 3) := dk_184 0 33 (dk_at dksX5_renew_0 17 rfl rfl)
theorem dX5_renew_20 : decode cX5_renew 20 = .ok (.iaload, 1) := dk_46 (dk_at dksX5_renew_0 20 rfl rfl)
theorem dX5_renew_21 : decode cX5_renew 21 = .ok (.ldc 25, 2) := dk_18 25 (dk_at dksX5_renew_0 21 rfl rfl)
theorem dX5_renew_23 : decode cX5_renew 23 = .ok (.if_icmp .eq 6, 3) := dk_159 0 6 (dk_at dksX5_renew_1 0 rfl rfl)
theorem dX5_renew_26 : decode cX5_renew 26 = .ok (.ldc 44, 2) := dk_18 44 (dk_at dksX5_renew_1 3 rfl rfl)
theorem dX5_renew_28 : decode cX5_renew 28 = .ok (.ireturn, 1) := dk_172 (dk_at dksX5_renew_1 5 rfl rfl)
theorem dX5_renew_29 : decode cX5_renew 29 = .ok (.aload_n 0, 1) := dk_42 (dk_at dksX5_renew_1 6 rfl rfl)
theorem dX5_renew_30 : decode cX5_renew 30 = .ok (.invokevirtual 83, 3) := dk_182 0 83 (dk_at dksX5_renew_1 7 rfl rfl)
theorem dX5_renew_33 : decode cX5_renew 33 = .ok (.aload_n 0, 1) := dk_42 (dk_at dksX5_renew_1 10 rfl rfl)
theorem dX5_renew_34 : decode cX5_renew 34 = .ok (.getfield 7, 3) := dk_180 0 7 (dk_at dksX5_renew_1 11 rfl rfl)
theorem dX5_renew_37 : decode cX5_renew 37 = .ok (.bipush 74, 2) := dk_16 74 (dk_at dksX5_renew_1 14 rfl rfl)
theorem dX5_renew_39 : decode cX5_renew 39 = .ok (.dup2, 1) := dk_92 (dk_at dksX5_renew_1 16 rfl rfl)
theorem dX5_renew_40 : decode cX5_renew 40 = .ok (.iaload, 1) := dk_46 (dk_at dksX5_renew_1 17 rfl rfl)
theorem dX5_renew_41 : decode cX5_renew 41 = .ok (.bipush 30, 2) := dk_16 30 (dk_at dksX5_renew_1 18 rfl rfl)
theorem dX5_renew_43 : decode cX5_renew 43 = .ok (.iadd, 1) := dk_96 (dk_at dksX5_renew_1 20 rfl rfl)
theorem dX5_renew_44 : decode cX5_renew 44 = .ok (.iastore, 1) := dk_79 (dk_at dksX5_renew_1 21 rfl rfl)
theorem dX5_renew_45 : decode cX5_renew 45 = .ok (.aload_n 0, 1) := dk_42 (dk_at dksX5_renew_1 22 rfl rfl)
theorem dX5_renew_46 : decode cX5_renew 46 = .ok (.getfield 7, 3) := dk_180 0 7 (dk_at dksX5_renew_2 0 rfl rfl)
theorem dX5_renew_49 : decode cX5_renew 49 = .ok (.iload_n 1, 1) := dk_27 (dk_at dksX5_renew_2 3 rfl rfl)
theorem dX5_renew_50 : decode cX5_renew 50 = .ok (.iconst 1, 1) := dk_4 (dk_at dksX5_renew_2 4 rfl rfl)
theorem dX5_renew_51 : decode cX5_renew 51 = .ok (.invokestatic 33, 3) := dk_184 0 33 (dk_at dksX5_renew_2 5 rfl rfl)
theorem dX5_renew_54 : decode cX5_renew 54 = .ok (.bipush 8, 2) := dk_16 8 (dk_at dksX5_renew_2 8 rfl rfl)
theorem dX5_renew_56 : decode cX5_renew 56 = .ok (.iload_n 1, 1) := dk_27 (dk_at dksX5_renew_2 10 rfl rfl)
theorem dX5_renew_57 : decode cX5_renew 57 = .ok (.iadd, 1) := dk_96 (dk_at dksX5_renew_2 11 rfl rfl)
theorem dX5_renew_58 : decode cX5_renew 58 = .ok (.iastore, 1) := dk_79 (dk_at dksX5_renew_2 12 rfl rfl)
theorem dX5_renew_59 : decode cX5_renew 59 = .ok (.aload_n 0, 1) := dk_42 (dk_at dksX5_renew_2 13 rfl rfl)
theorem dX5_renew_60 : decode cX5_renew 60 = .ok (.getfield 7, 3) := dk_180 0 7 (dk_at dksX5_renew_2 14 rfl rfl)
theorem dX5_renew_63 : decode cX5_renew 63 = .ok (.iload_n 1, 1) := dk_27 (dk_at dksX5_renew_2 17 rfl rfl)
theorem dX5_renew_64 : decode cX5_renew 64 = .ok (.iconst 2, 1) := dk_5 (dk_at dksX5_renew_2 18 rfl rfl)
theorem dX5_renew_65 : decode cX5_renew 65 = .ok (.invokestatic 33, 3) := dk_184 0 33 (dk_at dksX5_renew_2 19 rfl rfl)
theorem dX5_renew_68 : decode cX5_renew 68 = .ok (.iconst 0, 1) := dk_3 (dk_at dksX5_renew_2 22 rfl rfl)
theorem dX5_renew_69 : decode cX5_renew 69 = .ok (.iastore, 1) := dk_79 (dk_at dksX5_renew_2 23 rfl rfl)
theorem dX5_renew_70 : decode cX5_renew 70 = .ok (.aload_n 0, 1) := dk_42 (dk_at dksX5_renew_3 0 rfl rfl)
theorem dX5_renew_71 : decode cX5_renew 71 = .ok (.getfield 7, 3) := dk_180 0 7 (dk_at dksX5_renew_3 1 rfl rfl)
theorem dX5_renew_74 : decode cX5_renew 74 = .ok (.iload_n 1, 1) := dk_27 (dk_at dksX5_renew_3 4 rfl rfl)
theorem dX5_renew_75 : decode cX5_renew 75 = .ok (.iconst 3, 1) := dk_6 (dk_at dksX5_renew_3 5 rfl rfl)
theorem dX5_renew_76 : decode cX5_renew 76 = .ok (.invokestatic 33, 3) := dk_184 0 33 (dk_at dksX5_renew_3 6 rfl rfl)
theorem dX5_renew_79 : decode cX5_renew 79 = .ok (.iconst 0, 1) := dk_3 (dk_at dksX5_renew_3 9 rfl rfl)
theorem dX5_renew_80 : decode cX5_renew 80 = .ok (.iastore, 1) := dk_79 (dk_at dksX5_renew_3 10 rfl rfl)
theorem dX5_renew_81 : decode cX5_renew 81 = .ok (.aload_n 0, 1) := dk_42 (dk_at dksX5_renew_3 11 rfl rfl)
theorem dX5_renew_82 : decode cX5_renew 82 = .ok (.getfield 7, 3) := dk_180 0 7 (dk_at dksX5_renew_3 12 rfl rfl)
theorem dX5_renew_85 : decode cX5_renew 85 = .ok (.iload_n 1, 1) := dk_27 (dk_at dksX5_renew_3 15 rfl rfl)
theorem dX5_renew_86 : decode cX5_renew 86 = .ok (.iconst 4, 1) := dk_7 (dk_at dksX5_renew_3 16 rfl rfl)
theorem dX5_renew_87 : decode cX5_renew 87 = .ok (.invokestatic 33, 3) := dk_184 0 33 (dk_at dksX5_renew_3 17 rfl rfl)
theorem dX5_renew_90 : decode cX5_renew 90 = .ok (.iconst 0, 1) := dk_3 (dk_at dksX5_renew_3 20 rfl rfl)
theorem dX5_renew_91 : decode cX5_renew 91 = .ok (.iastore, 1) := dk_79 (dk_at dksX5_renew_3 21 rfl rfl)
theorem dX5_renew_92 : decode cX5_renew 92 = .ok (.bipush 8, 2) := dk_16 8 (dk_at dksX5_renew_3 22 rfl rfl)
theorem dX5_renew_94 : decode cX5_renew 94 = .ok (.iload_n 1, 1) := dk_27 (dk_at dksX5_renew_4 0 rfl rfl)
theorem dX5_renew_95 : decode cX5_renew 95 = .ok (.iadd, 1) := dk_96 (dk_at dksX5_renew_4 1 rfl rfl)
theorem dX5_renew_96 : decode cX5_renew 96 = .ok (.ireturn, 1) := dk_172 (dk_at dksX5_renew_4 2 rfl rfl)
abbrev cX5_setPrice : ByteArray := prog_14_method_35_code
def yX5_setPrice : MethodName := ⟨RX5, "setPrice", "(I)I"⟩
def dkwX5_setPrice_1 : List UInt8 := [18, 25, 172, 42, 182, 0, 83, 42, 16, 56, 27, 182, 0, 109, 172]
abbrev dktX5_setPrice_1 : List UInt8 := dkwX5_setPrice_1 ++ []
def dkwX5_setPrice_0 : List UInt8 := [27, 4, 16, 99, 184, 0, 37, 154, 0, 6, 18, 59, 172, 42, 180, 0, 7, 16, 56, 46, 27, 160, 0, 6]
abbrev dktX5_setPrice_0 : List UInt8 := dkwX5_setPrice_0 ++ dktX5_setPrice_1
theorem dksX5_setPrice_0 : cX5_setPrice.data.toList.drop 0 = dktX5_setPrice_0 := by decide +kernel
theorem dksX5_setPrice_1 : cX5_setPrice.data.toList.drop 24 = dktX5_setPrice_1 := dk_seg dksX5_setPrice_0 24 rfl rfl
theorem dX5_setPrice_0 : decode cX5_setPrice 0 = .ok (.iload_n 1, 1) := dk_27 (dk_at dksX5_setPrice_0 0 rfl rfl)
theorem dX5_setPrice_1 : decode cX5_setPrice 1 = .ok (.iconst 1, 1) := dk_4 (dk_at dksX5_setPrice_0 1 rfl rfl)
theorem dX5_setPrice_2 : decode cX5_setPrice 2 = .ok (.bipush 99, 2) := dk_16 99 (dk_at dksX5_setPrice_0 2 rfl rfl)
theorem dX5_setPrice_4 : decode cX5_setPrice 4 = .ok (.invokestatic 37, 3) := dk_184 0 37 (dk_at dksX5_setPrice_0 4 rfl rfl)
theorem dX5_setPrice_7 : decode cX5_setPrice 7 = .ok (.ifCond .ne 6, 3) := dk_154 0 6 (dk_at dksX5_setPrice_0 7 rfl rfl)
theorem dX5_setPrice_10 : decode cX5_setPrice 10 = .ok (.ldc 59, 2) := dk_18 59 (dk_at dksX5_setPrice_0 10 rfl rfl)
theorem dX5_setPrice_12 : decode cX5_setPrice 12 = .ok (.ireturn, 1) := dk_172 (dk_at dksX5_setPrice_0 12 rfl rfl)
theorem dX5_setPrice_13 : decode cX5_setPrice 13 = .ok (.aload_n 0, 1) := dk_42 (dk_at dksX5_setPrice_0 13 rfl rfl)
theorem dX5_setPrice_14 : decode cX5_setPrice 14 = .ok (.getfield 7, 3) := dk_180 0 7 (dk_at dksX5_setPrice_0 14 rfl rfl)
theorem dX5_setPrice_17 : decode cX5_setPrice 17 = .ok (.bipush 56, 2) := dk_16 56 (dk_at dksX5_setPrice_0 17 rfl rfl)
theorem dX5_setPrice_19 : decode cX5_setPrice 19 = .ok (.iaload, 1) := dk_46 (dk_at dksX5_setPrice_0 19 rfl rfl)
theorem dX5_setPrice_20 : decode cX5_setPrice 20 = .ok (.iload_n 1, 1) := dk_27 (dk_at dksX5_setPrice_0 20 rfl rfl)
theorem dX5_setPrice_21 : decode cX5_setPrice 21 = .ok (.if_icmp .ne 6, 3) := dk_160 0 6 (dk_at dksX5_setPrice_0 21 rfl rfl)
theorem dX5_setPrice_24 : decode cX5_setPrice 24 = .ok (.ldc 25, 2) := dk_18 25 (dk_at dksX5_setPrice_1 0 rfl rfl)
theorem dX5_setPrice_26 : decode cX5_setPrice 26 = .ok (.ireturn, 1) := dk_172 (dk_at dksX5_setPrice_1 2 rfl rfl)
theorem dX5_setPrice_27 : decode cX5_setPrice 27 = .ok (.aload_n 0, 1) := dk_42 (dk_at dksX5_setPrice_1 3 rfl rfl)
theorem dX5_setPrice_28 : decode cX5_setPrice 28 = .ok (.invokevirtual 83, 3) := dk_182 0 83 (dk_at dksX5_setPrice_1 4 rfl rfl)
theorem dX5_setPrice_31 : decode cX5_setPrice 31 = .ok (.aload_n 0, 1) := dk_42 (dk_at dksX5_setPrice_1 7 rfl rfl)
theorem dX5_setPrice_32 : decode cX5_setPrice 32 = .ok (.bipush 56, 2) := dk_16 56 (dk_at dksX5_setPrice_1 8 rfl rfl)
theorem dX5_setPrice_34 : decode cX5_setPrice 34 = .ok (.iload_n 1, 1) := dk_27 (dk_at dksX5_setPrice_1 10 rfl rfl)
theorem dX5_setPrice_35 : decode cX5_setPrice 35 = .ok (.invokevirtual 109, 3) := dk_182 0 109 (dk_at dksX5_setPrice_1 11 rfl rfl)
theorem dX5_setPrice_38 : decode cX5_setPrice 38 = .ok (.ireturn, 1) := dk_172 (dk_at dksX5_setPrice_1 14 rfl rfl)
abbrev cX5_puts : ByteArray := prog_14_method_13_code
def yX5_puts : MethodName := ⟨RX5, "puts", "(II)I"⟩
def dkwX5_puts_0 : List UInt8 := [42, 180, 0, 7, 27, 46, 62, 42, 180, 0, 7, 27, 28, 79, 29, 172]
abbrev dktX5_puts_0 : List UInt8 := dkwX5_puts_0 ++ []
theorem dksX5_puts_0 : cX5_puts.data.toList.drop 0 = dktX5_puts_0 := by decide +kernel
theorem dX5_puts_0 : decode cX5_puts 0 = .ok (.aload_n 0, 1) := dk_42 (dk_at dksX5_puts_0 0 rfl rfl)
theorem dX5_puts_1 : decode cX5_puts 1 = .ok (.getfield 7, 3) := dk_180 0 7 (dk_at dksX5_puts_0 1 rfl rfl)
theorem dX5_puts_4 : decode cX5_puts 4 = .ok (.iload_n 1, 1) := dk_27 (dk_at dksX5_puts_0 4 rfl rfl)
theorem dX5_puts_5 : decode cX5_puts 5 = .ok (.iaload, 1) := dk_46 (dk_at dksX5_puts_0 5 rfl rfl)
theorem dX5_puts_6 : decode cX5_puts 6 = .ok (.istore_n 3, 1) := dk_62 (dk_at dksX5_puts_0 6 rfl rfl)
theorem dX5_puts_7 : decode cX5_puts 7 = .ok (.aload_n 0, 1) := dk_42 (dk_at dksX5_puts_0 7 rfl rfl)
theorem dX5_puts_8 : decode cX5_puts 8 = .ok (.getfield 7, 3) := dk_180 0 7 (dk_at dksX5_puts_0 8 rfl rfl)
theorem dX5_puts_11 : decode cX5_puts 11 = .ok (.iload_n 1, 1) := dk_27 (dk_at dksX5_puts_0 11 rfl rfl)
theorem dX5_puts_12 : decode cX5_puts 12 = .ok (.iload_n 2, 1) := dk_28 (dk_at dksX5_puts_0 12 rfl rfl)
theorem dX5_puts_13 : decode cX5_puts 13 = .ok (.iastore, 1) := dk_79 (dk_at dksX5_puts_0 13 rfl rfl)
theorem dX5_puts_14 : decode cX5_puts 14 = .ok (.iload_n 3, 1) := dk_29 (dk_at dksX5_puts_0 14 rfl rfl)
theorem dX5_puts_15 : decode cX5_puts 15 = .ok (.ireturn, 1) := dk_172 (dk_at dksX5_puts_0 15 rfl rfl)
abbrev cX5_show : ByteArray := prog_14_method_36_code
def yX5_show : MethodName := ⟨RX5, "show", "(I)I"⟩
def dkwX5_show_1 : List UInt8 := [172, 42, 182, 0, 83, 42, 27, 182, 0, 116, 172]
abbrev dktX5_show_1 : List UInt8 := dkwX5_show_1 ++ []
def dkwX5_show_0 : List UInt8 := [27, 184, 0, 80, 154, 0, 6, 18, 58, 172, 42, 27, 182, 0, 112, 61, 28, 158, 0, 8, 18, 115, 28, 100]
abbrev dktX5_show_0 : List UInt8 := dkwX5_show_0 ++ dktX5_show_1
theorem dksX5_show_0 : cX5_show.data.toList.drop 0 = dktX5_show_0 := by decide +kernel
theorem dksX5_show_1 : cX5_show.data.toList.drop 24 = dktX5_show_1 := dk_seg dksX5_show_0 24 rfl rfl
theorem dX5_show_0 : decode cX5_show 0 = .ok (.iload_n 1, 1) := dk_27 (dk_at dksX5_show_0 0 rfl rfl)
theorem dX5_show_1 : decode cX5_show 1 = .ok (.invokestatic 80, 3) := dk_184 0 80 (dk_at dksX5_show_0 1 rfl rfl)
theorem dX5_show_4 : decode cX5_show 4 = .ok (.ifCond .ne 6, 3) := dk_154 0 6 (dk_at dksX5_show_0 4 rfl rfl)
theorem dX5_show_7 : decode cX5_show 7 = .ok (.ldc 58, 2) := dk_18 58 (dk_at dksX5_show_0 7 rfl rfl)
theorem dX5_show_9 : decode cX5_show 9 = .ok (.ireturn, 1) := dk_172 (dk_at dksX5_show_0 9 rfl rfl)
theorem dX5_show_10 : decode cX5_show 10 = .ok (.aload_n 0, 1) := dk_42 (dk_at dksX5_show_0 10 rfl rfl)
theorem dX5_show_11 : decode cX5_show 11 = .ok (.iload_n 1, 1) := dk_27 (dk_at dksX5_show_0 11 rfl rfl)
theorem dX5_show_12 : decode cX5_show 12 = .ok (.invokevirtual 112, 3) := dk_182 0 112 (dk_at dksX5_show_0 12 rfl rfl)
theorem dX5_show_15 : decode cX5_show 15 = .ok (.istore_n 2, 1) := dk_61 (dk_at dksX5_show_0 15 rfl rfl)
theorem dX5_show_16 : decode cX5_show 16 = .ok (.iload_n 2, 1) := dk_28 (dk_at dksX5_show_0 16 rfl rfl)
theorem dX5_show_17 : decode cX5_show 17 = .ok (.ifCond .le 8, 3) := dk_158 0 8 (dk_at dksX5_show_0 17 rfl rfl)
theorem dX5_show_20 : decode cX5_show 20 = .ok (.ldc 115, 2) := dk_18 115 (dk_at dksX5_show_0 20 rfl rfl)
theorem dX5_show_22 : decode cX5_show 22 = .ok (.iload_n 2, 1) := dk_28 (dk_at dksX5_show_0 22 rfl rfl)
theorem dX5_show_23 : decode cX5_show 23 = .ok (.isub, 1) := dk_100 (dk_at dksX5_show_0 23 rfl rfl)
theorem dX5_show_24 : decode cX5_show 24 = .ok (.ireturn, 1) := dk_172 (dk_at dksX5_show_1 0 rfl rfl)
theorem dX5_show_25 : decode cX5_show 25 = .ok (.aload_n 0, 1) := dk_42 (dk_at dksX5_show_1 1 rfl rfl)
theorem dX5_show_26 : decode cX5_show 26 = .ok (.invokevirtual 83, 3) := dk_182 0 83 (dk_at dksX5_show_1 2 rfl rfl)
theorem dX5_show_29 : decode cX5_show 29 = .ok (.aload_n 0, 1) := dk_42 (dk_at dksX5_show_1 5 rfl rfl)
theorem dX5_show_30 : decode cX5_show 30 = .ok (.iload_n 1, 1) := dk_27 (dk_at dksX5_show_1 6 rfl rfl)
theorem dX5_show_31 : decode cX5_show 31 = .ok (.invokevirtual 116, 3) := dk_182 0 116 (dk_at dksX5_show_1 7 rfl rfl)
theorem dX5_show_34 : decode cX5_show 34 = .ok (.ireturn, 1) := dk_172 (dk_at dksX5_show_1 10 rfl rfl)
abbrev cX5_why : ByteArray := prog_14_method_23_code
def yX5_why : MethodName := ⟨RX5, "why", "(I)I"⟩
def dkwX5_why_2 : List UInt8 := [182, 0, 60, 182, 0, 63, 18, 25, 160, 0, 7, 7, 167, 0, 4, 3, 172]
abbrev dktX5_why_2 : List UInt8 := dkwX5_why_2 ++ []
def dkwX5_why_1 : List UInt8 := [5, 172, 42, 27, 3, 182, 0, 63, 18, 25, 160, 0, 7, 6, 167, 0, 24, 42, 27, 42, 27, 4]
abbrev dktX5_why_1 : List UInt8 := dkwX5_why_1 ++ dktX5_why_2
def dkwX5_why_0 : List UInt8 := [42, 180, 0, 7, 16, 57, 27, 96, 46, 4, 160, 0, 5, 4, 172, 42, 27, 3, 182, 0, 60, 154, 0, 5]
abbrev dktX5_why_0 : List UInt8 := dkwX5_why_0 ++ dktX5_why_1
theorem dksX5_why_0 : cX5_why.data.toList.drop 0 = dktX5_why_0 := by decide +kernel
theorem dksX5_why_1 : cX5_why.data.toList.drop 24 = dktX5_why_1 := dk_seg dksX5_why_0 24 rfl rfl
theorem dksX5_why_2 : cX5_why.data.toList.drop 46 = dktX5_why_2 := dk_seg dksX5_why_1 22 rfl rfl
theorem dX5_why_0 : decode cX5_why 0 = .ok (.aload_n 0, 1) := dk_42 (dk_at dksX5_why_0 0 rfl rfl)
theorem dX5_why_1 : decode cX5_why 1 = .ok (.getfield 7, 3) := dk_180 0 7 (dk_at dksX5_why_0 1 rfl rfl)
theorem dX5_why_4 : decode cX5_why 4 = .ok (.bipush 57, 2) := dk_16 57 (dk_at dksX5_why_0 4 rfl rfl)
theorem dX5_why_6 : decode cX5_why 6 = .ok (.iload_n 1, 1) := dk_27 (dk_at dksX5_why_0 6 rfl rfl)
theorem dX5_why_7 : decode cX5_why 7 = .ok (.iadd, 1) := dk_96 (dk_at dksX5_why_0 7 rfl rfl)
theorem dX5_why_8 : decode cX5_why 8 = .ok (.iaload, 1) := dk_46 (dk_at dksX5_why_0 8 rfl rfl)
theorem dX5_why_9 : decode cX5_why 9 = .ok (.iconst 1, 1) := dk_4 (dk_at dksX5_why_0 9 rfl rfl)
theorem dX5_why_10 : decode cX5_why 10 = .ok (.if_icmp .ne 5, 3) := dk_160 0 5 (dk_at dksX5_why_0 10 rfl rfl)
theorem dX5_why_13 : decode cX5_why 13 = .ok (.iconst 1, 1) := dk_4 (dk_at dksX5_why_0 13 rfl rfl)
theorem dX5_why_14 : decode cX5_why 14 = .ok (.ireturn, 1) := dk_172 (dk_at dksX5_why_0 14 rfl rfl)
theorem dX5_why_15 : decode cX5_why 15 = .ok (.aload_n 0, 1) := dk_42 (dk_at dksX5_why_0 15 rfl rfl)
theorem dX5_why_16 : decode cX5_why 16 = .ok (.iload_n 1, 1) := dk_27 (dk_at dksX5_why_0 16 rfl rfl)
theorem dX5_why_17 : decode cX5_why 17 = .ok (.iconst 0, 1) := dk_3 (dk_at dksX5_why_0 17 rfl rfl)
theorem dX5_why_18 : decode cX5_why 18 = .ok (.invokevirtual 60, 3) := dk_182 0 60 (dk_at dksX5_why_0 18 rfl rfl)
theorem dX5_why_21 : decode cX5_why 21 = .ok (.ifCond .ne 5, 3) := dk_154 0 5 (dk_at dksX5_why_0 21 rfl rfl)
theorem dX5_why_24 : decode cX5_why 24 = .ok (.iconst 2, 1) := dk_5 (dk_at dksX5_why_1 0 rfl rfl)
theorem dX5_why_25 : decode cX5_why 25 = .ok (.ireturn, 1) := dk_172 (dk_at dksX5_why_1 1 rfl rfl)
theorem dX5_why_26 : decode cX5_why 26 = .ok (.aload_n 0, 1) := dk_42 (dk_at dksX5_why_1 2 rfl rfl)
theorem dX5_why_27 : decode cX5_why 27 = .ok (.iload_n 1, 1) := dk_27 (dk_at dksX5_why_1 3 rfl rfl)
theorem dX5_why_28 : decode cX5_why 28 = .ok (.iconst 0, 1) := dk_3 (dk_at dksX5_why_1 4 rfl rfl)
theorem dX5_why_29 : decode cX5_why 29 = .ok (.invokevirtual 63, 3) := dk_182 0 63 (dk_at dksX5_why_1 5 rfl rfl)
theorem dX5_why_32 : decode cX5_why 32 = .ok (.ldc 25, 2) := dk_18 25 (dk_at dksX5_why_1 8 rfl rfl)
theorem dX5_why_34 : decode cX5_why 34 = .ok (.if_icmp .ne 7, 3) := dk_160 0 7 (dk_at dksX5_why_1 10 rfl rfl)
theorem dX5_why_37 : decode cX5_why 37 = .ok (.iconst 3, 1) := dk_6 (dk_at dksX5_why_1 13 rfl rfl)
theorem dX5_why_38 : decode cX5_why 38 = .ok (.goto 24, 3) := dk_167 0 24 (dk_at dksX5_why_1 14 rfl rfl)
theorem dX5_why_41 : decode cX5_why 41 = .ok (.aload_n 0, 1) := dk_42 (dk_at dksX5_why_1 17 rfl rfl)
theorem dX5_why_42 : decode cX5_why 42 = .ok (.iload_n 1, 1) := dk_27 (dk_at dksX5_why_1 18 rfl rfl)
theorem dX5_why_43 : decode cX5_why 43 = .ok (.aload_n 0, 1) := dk_42 (dk_at dksX5_why_1 19 rfl rfl)
theorem dX5_why_44 : decode cX5_why 44 = .ok (.iload_n 1, 1) := dk_27 (dk_at dksX5_why_1 20 rfl rfl)
theorem dX5_why_45 : decode cX5_why 45 = .ok (.iconst 1, 1) := dk_4 (dk_at dksX5_why_1 21 rfl rfl)
theorem dX5_why_46 : decode cX5_why 46 = .ok (.invokevirtual 60, 3) := dk_182 0 60 (dk_at dksX5_why_2 0 rfl rfl)
theorem dX5_why_49 : decode cX5_why 49 = .ok (.invokevirtual 63, 3) := dk_182 0 63 (dk_at dksX5_why_2 3 rfl rfl)
theorem dX5_why_52 : decode cX5_why 52 = .ok (.ldc 25, 2) := dk_18 25 (dk_at dksX5_why_2 6 rfl rfl)
theorem dX5_why_54 : decode cX5_why 54 = .ok (.if_icmp .ne 7, 3) := dk_160 0 7 (dk_at dksX5_why_2 8 rfl rfl)
theorem dX5_why_57 : decode cX5_why 57 = .ok (.iconst 4, 1) := dk_7 (dk_at dksX5_why_2 11 rfl rfl)
theorem dX5_why_58 : decode cX5_why 58 = .ok (.goto 4, 3) := dk_167 0 4 (dk_at dksX5_why_2 12 rfl rfl)
theorem dX5_why_61 : decode cX5_why 61 = .ok (.iconst 0, 1) := dk_3 (dk_at dksX5_why_2 15 rfl rfl)
theorem dX5_why_62 : decode cX5_why 62 = .ok (.ireturn, 1) := dk_172 (dk_at dksX5_why_2 16 rfl rfl)
abbrev cX5_reels : ByteArray := prog_14_method_21_code
def yX5_reels : MethodName := ⟨RX5, "reels", "(II)I"⟩
def dkwX5_reels_6 : List UInt8 := [62, 132, 4, 1, 167, 255, 113, 29, 172]
abbrev dktX5_reels_6 : List UInt8 := dkwX5_reels_6 ++ []
def dkwX5_reels_5 : List UInt8 := [164, 0, 8, 21, 6, 167, 0, 19, 29, 167, 0, 15, 21, 7, 153, 0, 9, 29, 4, 96, 167, 0, 4, 29]
abbrev dktX5_reels_5 : List UInt8 := dkwX5_reels_5 ++ dktX5_reels_6
def dkwX5_reels_4 : List UInt8 := [29, 42, 180, 0, 7, 21, 4, 4, 184, 0, 33, 46, 96, 167, 0, 35, 28, 5, 160, 0, 18, 21, 6, 29]
abbrev dktX5_reels_4 : List UInt8 := dkwX5_reels_4 ++ dktX5_reels_5
def dkwX5_reels_3 : List UInt8 := [21, 5, 154, 0, 7, 29, 167, 0, 66, 28, 154, 0, 9, 29, 4, 96, 167, 0, 56, 28, 4, 160, 0, 19]
abbrev dktX5_reels_3 : List UInt8 := dkwX5_reels_3 ++ dktX5_reels_4
def dkwX5_reels_2 : List UInt8 := [180, 0, 7, 21, 4, 7, 184, 0, 33, 46, 27, 122, 4, 126, 154, 0, 7, 4, 167, 0, 4, 3, 54, 7]
abbrev dktX5_reels_2 : List UInt8 := dkwX5_reels_2 ++ dktX5_reels_3
def dkwX5_reels_1 : List UInt8 := [160, 0, 7, 4, 167, 0, 4, 3, 54, 5, 42, 180, 0, 7, 21, 4, 5, 184, 0, 33, 46, 54, 6, 42]
abbrev dktX5_reels_1 : List UInt8 := dkwX5_reels_1 ++ dktX5_reels_2
def dkwX5_reels_0 : List UInt8 := [3, 62, 3, 54, 4, 21, 4, 16, 10, 162, 0, 142, 42, 180, 0, 7, 21, 4, 3, 184, 0, 33, 46, 27]
abbrev dktX5_reels_0 : List UInt8 := dkwX5_reels_0 ++ dktX5_reels_1
theorem dksX5_reels_0 : cX5_reels.data.toList.drop 0 = dktX5_reels_0 := by decide +kernel
theorem dksX5_reels_1 : cX5_reels.data.toList.drop 24 = dktX5_reels_1 := dk_seg dksX5_reels_0 24 rfl rfl
theorem dksX5_reels_2 : cX5_reels.data.toList.drop 48 = dktX5_reels_2 := dk_seg dksX5_reels_1 24 rfl rfl
theorem dksX5_reels_3 : cX5_reels.data.toList.drop 72 = dktX5_reels_3 := dk_seg dksX5_reels_2 24 rfl rfl
theorem dksX5_reels_4 : cX5_reels.data.toList.drop 96 = dktX5_reels_4 := dk_seg dksX5_reels_3 24 rfl rfl
theorem dksX5_reels_5 : cX5_reels.data.toList.drop 120 = dktX5_reels_5 := dk_seg dksX5_reels_4 24 rfl rfl
theorem dksX5_reels_6 : cX5_reels.data.toList.drop 144 = dktX5_reels_6 := dk_seg dksX5_reels_5 24 rfl rfl
theorem dX5_reels_0 : decode cX5_reels 0 = .ok (.iconst 0, 1) := dk_3 (dk_at dksX5_reels_0 0 rfl rfl)
theorem dX5_reels_1 : decode cX5_reels 1 = .ok (.istore_n 3, 1) := dk_62 (dk_at dksX5_reels_0 1 rfl rfl)
theorem dX5_reels_2 : decode cX5_reels 2 = .ok (.iconst 0, 1) := dk_3 (dk_at dksX5_reels_0 2 rfl rfl)
theorem dX5_reels_3 : decode cX5_reels 3 = .ok (.istore 4, 2) := dk_54 4 (dk_at dksX5_reels_0 3 rfl rfl)
theorem dX5_reels_5 : decode cX5_reels 5 = .ok (.iload 4, 2) := dk_21 4 (dk_at dksX5_reels_0 5 rfl rfl)
theorem dX5_reels_7 : decode cX5_reels 7 = .ok (.bipush 10, 2) := dk_16 10 (dk_at dksX5_reels_0 7 rfl rfl)
theorem dX5_reels_9 : decode cX5_reels 9 = .ok (.if_icmp .ge 142, 3) := dk_162 0 142 (dk_at dksX5_reels_0 9 rfl rfl)
theorem dX5_reels_12 : decode cX5_reels 12 = .ok (.aload_n 0, 1) := dk_42 (dk_at dksX5_reels_0 12 rfl rfl)
theorem dX5_reels_13 : decode cX5_reels 13 = .ok (.getfield 7, 3) := dk_180 0 7 (dk_at dksX5_reels_0 13 rfl rfl)
theorem dX5_reels_16 : decode cX5_reels 16 = .ok (.iload 4, 2) := dk_21 4 (dk_at dksX5_reels_0 16 rfl rfl)
theorem dX5_reels_18 : decode cX5_reels 18 = .ok (.iconst 0, 1) := dk_3 (dk_at dksX5_reels_0 18 rfl rfl)
theorem dX5_reels_19 : decode cX5_reels 19 = .ok (.invokestatic 33, 3) := dk_184 0 33 (dk_at dksX5_reels_0 19 rfl rfl)
theorem dX5_reels_22 : decode cX5_reels 22 = .ok (.iaload, 1) := dk_46 (dk_at dksX5_reels_0 22 rfl rfl)
theorem dX5_reels_23 : decode cX5_reels 23 = .ok (.iload_n 1, 1) := dk_27 (dk_at dksX5_reels_0 23 rfl rfl)
theorem dX5_reels_24 : decode cX5_reels 24 = .ok (.if_icmp .ne 7, 3) := dk_160 0 7 (dk_at dksX5_reels_1 0 rfl rfl)
theorem dX5_reels_27 : decode cX5_reels 27 = .ok (.iconst 1, 1) := dk_4 (dk_at dksX5_reels_1 3 rfl rfl)
theorem dX5_reels_28 : decode cX5_reels 28 = .ok (.goto 4, 3) := dk_167 0 4 (dk_at dksX5_reels_1 4 rfl rfl)
theorem dX5_reels_31 : decode cX5_reels 31 = .ok (.iconst 0, 1) := dk_3 (dk_at dksX5_reels_1 7 rfl rfl)
theorem dX5_reels_32 : decode cX5_reels 32 = .ok (.istore 5, 2) := dk_54 5 (dk_at dksX5_reels_1 8 rfl rfl)
theorem dX5_reels_34 : decode cX5_reels 34 = .ok (.aload_n 0, 1) := dk_42 (dk_at dksX5_reels_1 10 rfl rfl)
theorem dX5_reels_35 : decode cX5_reels 35 = .ok (.getfield 7, 3) := dk_180 0 7 (dk_at dksX5_reels_1 11 rfl rfl)
theorem dX5_reels_38 : decode cX5_reels 38 = .ok (.iload 4, 2) := dk_21 4 (dk_at dksX5_reels_1 14 rfl rfl)
theorem dX5_reels_40 : decode cX5_reels 40 = .ok (.iconst 2, 1) := dk_5 (dk_at dksX5_reels_1 16 rfl rfl)
theorem dX5_reels_41 : decode cX5_reels 41 = .ok (.invokestatic 33, 3) := dk_184 0 33 (dk_at dksX5_reels_1 17 rfl rfl)
theorem dX5_reels_44 : decode cX5_reels 44 = .ok (.iaload, 1) := dk_46 (dk_at dksX5_reels_1 20 rfl rfl)
theorem dX5_reels_45 : decode cX5_reels 45 = .ok (.istore 6, 2) := dk_54 6 (dk_at dksX5_reels_1 21 rfl rfl)
theorem dX5_reels_47 : decode cX5_reels 47 = .ok (.aload_n 0, 1) := dk_42 (dk_at dksX5_reels_1 23 rfl rfl)
theorem dX5_reels_48 : decode cX5_reels 48 = .ok (.getfield 7, 3) := dk_180 0 7 (dk_at dksX5_reels_2 0 rfl rfl)
theorem dX5_reels_51 : decode cX5_reels 51 = .ok (.iload 4, 2) := dk_21 4 (dk_at dksX5_reels_2 3 rfl rfl)
theorem dX5_reels_53 : decode cX5_reels 53 = .ok (.iconst 4, 1) := dk_7 (dk_at dksX5_reels_2 5 rfl rfl)
theorem dX5_reels_54 : decode cX5_reels 54 = .ok (.invokestatic 33, 3) := dk_184 0 33 (dk_at dksX5_reels_2 6 rfl rfl)
theorem dX5_reels_57 : decode cX5_reels 57 = .ok (.iaload, 1) := dk_46 (dk_at dksX5_reels_2 9 rfl rfl)
theorem dX5_reels_58 : decode cX5_reels 58 = .ok (.iload_n 1, 1) := dk_27 (dk_at dksX5_reels_2 10 rfl rfl)
theorem dX5_reels_59 : decode cX5_reels 59 = .ok (.ishr, 1) := dk_122 (dk_at dksX5_reels_2 11 rfl rfl)
theorem dX5_reels_60 : decode cX5_reels 60 = .ok (.iconst 1, 1) := dk_4 (dk_at dksX5_reels_2 12 rfl rfl)
theorem dX5_reels_61 : decode cX5_reels 61 = .ok (.iand, 1) := dk_126 (dk_at dksX5_reels_2 13 rfl rfl)
theorem dX5_reels_62 : decode cX5_reels 62 = .ok (.ifCond .ne 7, 3) := dk_154 0 7 (dk_at dksX5_reels_2 14 rfl rfl)
theorem dX5_reels_65 : decode cX5_reels 65 = .ok (.iconst 1, 1) := dk_4 (dk_at dksX5_reels_2 17 rfl rfl)
theorem dX5_reels_66 : decode cX5_reels 66 = .ok (.goto 4, 3) := dk_167 0 4 (dk_at dksX5_reels_2 18 rfl rfl)
theorem dX5_reels_69 : decode cX5_reels 69 = .ok (.iconst 0, 1) := dk_3 (dk_at dksX5_reels_2 21 rfl rfl)
theorem dX5_reels_70 : decode cX5_reels 70 = .ok (.istore 7, 2) := dk_54 7 (dk_at dksX5_reels_2 22 rfl rfl)
theorem dX5_reels_72 : decode cX5_reels 72 = .ok (.iload 5, 2) := dk_21 5 (dk_at dksX5_reels_3 0 rfl rfl)
theorem dX5_reels_74 : decode cX5_reels 74 = .ok (.ifCond .ne 7, 3) := dk_154 0 7 (dk_at dksX5_reels_3 2 rfl rfl)
theorem dX5_reels_77 : decode cX5_reels 77 = .ok (.iload_n 3, 1) := dk_29 (dk_at dksX5_reels_3 5 rfl rfl)
theorem dX5_reels_78 : decode cX5_reels 78 = .ok (.goto 66, 3) := dk_167 0 66 (dk_at dksX5_reels_3 6 rfl rfl)
theorem dX5_reels_81 : decode cX5_reels 81 = .ok (.iload_n 2, 1) := dk_28 (dk_at dksX5_reels_3 9 rfl rfl)
theorem dX5_reels_82 : decode cX5_reels 82 = .ok (.ifCond .ne 9, 3) := dk_154 0 9 (dk_at dksX5_reels_3 10 rfl rfl)
theorem dX5_reels_85 : decode cX5_reels 85 = .ok (.iload_n 3, 1) := dk_29 (dk_at dksX5_reels_3 13 rfl rfl)
theorem dX5_reels_86 : decode cX5_reels 86 = .ok (.iconst 1, 1) := dk_4 (dk_at dksX5_reels_3 14 rfl rfl)
theorem dX5_reels_87 : decode cX5_reels 87 = .ok (.iadd, 1) := dk_96 (dk_at dksX5_reels_3 15 rfl rfl)
theorem dX5_reels_88 : decode cX5_reels 88 = .ok (.goto 56, 3) := dk_167 0 56 (dk_at dksX5_reels_3 16 rfl rfl)
theorem dX5_reels_91 : decode cX5_reels 91 = .ok (.iload_n 2, 1) := dk_28 (dk_at dksX5_reels_3 19 rfl rfl)
theorem dX5_reels_92 : decode cX5_reels 92 = .ok (.iconst 1, 1) := dk_4 (dk_at dksX5_reels_3 20 rfl rfl)
theorem dX5_reels_93 : decode cX5_reels 93 = .ok (.if_icmp .ne 19, 3) := dk_160 0 19 (dk_at dksX5_reels_3 21 rfl rfl)
theorem dX5_reels_96 : decode cX5_reels 96 = .ok (.iload_n 3, 1) := dk_29 (dk_at dksX5_reels_4 0 rfl rfl)
theorem dX5_reels_97 : decode cX5_reels 97 = .ok (.aload_n 0, 1) := dk_42 (dk_at dksX5_reels_4 1 rfl rfl)
theorem dX5_reels_98 : decode cX5_reels 98 = .ok (.getfield 7, 3) := dk_180 0 7 (dk_at dksX5_reels_4 2 rfl rfl)
theorem dX5_reels_101 : decode cX5_reels 101 = .ok (.iload 4, 2) := dk_21 4 (dk_at dksX5_reels_4 5 rfl rfl)
theorem dX5_reels_103 : decode cX5_reels 103 = .ok (.iconst 1, 1) := dk_4 (dk_at dksX5_reels_4 7 rfl rfl)
theorem dX5_reels_104 : decode cX5_reels 104 = .ok (.invokestatic 33, 3) := dk_184 0 33 (dk_at dksX5_reels_4 8 rfl rfl)
theorem dX5_reels_107 : decode cX5_reels 107 = .ok (.iaload, 1) := dk_46 (dk_at dksX5_reels_4 11 rfl rfl)
theorem dX5_reels_108 : decode cX5_reels 108 = .ok (.iadd, 1) := dk_96 (dk_at dksX5_reels_4 12 rfl rfl)
theorem dX5_reels_109 : decode cX5_reels 109 = .ok (.goto 35, 3) := dk_167 0 35 (dk_at dksX5_reels_4 13 rfl rfl)
theorem dX5_reels_112 : decode cX5_reels 112 = .ok (.iload_n 2, 1) := dk_28 (dk_at dksX5_reels_4 16 rfl rfl)
theorem dX5_reels_113 : decode cX5_reels 113 = .ok (.iconst 2, 1) := dk_5 (dk_at dksX5_reels_4 17 rfl rfl)
theorem dX5_reels_114 : decode cX5_reels 114 = .ok (.if_icmp .ne 18, 3) := dk_160 0 18 (dk_at dksX5_reels_4 18 rfl rfl)
theorem dX5_reels_117 : decode cX5_reels 117 = .ok (.iload 6, 2) := dk_21 6 (dk_at dksX5_reels_4 21 rfl rfl)
theorem dX5_reels_119 : decode cX5_reels 119 = .ok (.iload_n 3, 1) := dk_29 (dk_at dksX5_reels_4 23 rfl rfl)
theorem dX5_reels_120 : decode cX5_reels 120 = .ok (.if_icmp .le 8, 3) := dk_164 0 8 (dk_at dksX5_reels_5 0 rfl rfl)
theorem dX5_reels_123 : decode cX5_reels 123 = .ok (.iload 6, 2) := dk_21 6 (dk_at dksX5_reels_5 3 rfl rfl)
theorem dX5_reels_125 : decode cX5_reels 125 = .ok (.goto 19, 3) := dk_167 0 19 (dk_at dksX5_reels_5 5 rfl rfl)
theorem dX5_reels_128 : decode cX5_reels 128 = .ok (.iload_n 3, 1) := dk_29 (dk_at dksX5_reels_5 8 rfl rfl)
theorem dX5_reels_129 : decode cX5_reels 129 = .ok (.goto 15, 3) := dk_167 0 15 (dk_at dksX5_reels_5 9 rfl rfl)
theorem dX5_reels_132 : decode cX5_reels 132 = .ok (.iload 7, 2) := dk_21 7 (dk_at dksX5_reels_5 12 rfl rfl)
theorem dX5_reels_134 : decode cX5_reels 134 = .ok (.ifCond .eq 9, 3) := dk_153 0 9 (dk_at dksX5_reels_5 14 rfl rfl)
theorem dX5_reels_137 : decode cX5_reels 137 = .ok (.iload_n 3, 1) := dk_29 (dk_at dksX5_reels_5 17 rfl rfl)
theorem dX5_reels_138 : decode cX5_reels 138 = .ok (.iconst 1, 1) := dk_4 (dk_at dksX5_reels_5 18 rfl rfl)
theorem dX5_reels_139 : decode cX5_reels 139 = .ok (.iadd, 1) := dk_96 (dk_at dksX5_reels_5 19 rfl rfl)
theorem dX5_reels_140 : decode cX5_reels 140 = .ok (.goto 4, 3) := dk_167 0 4 (dk_at dksX5_reels_5 20 rfl rfl)
theorem dX5_reels_143 : decode cX5_reels 143 = .ok (.iload_n 3, 1) := dk_29 (dk_at dksX5_reels_5 23 rfl rfl)
theorem dX5_reels_144 : decode cX5_reels 144 = .ok (.istore_n 3, 1) := dk_62 (dk_at dksX5_reels_6 0 rfl rfl)
theorem dX5_reels_145 : decode cX5_reels 145 = .ok (.iinc 4 1, 3) := dk_132 4 1 (dk_at dksX5_reels_6 1 rfl rfl)
theorem dX5_reels_148 : decode cX5_reels 148 = .ok (.goto (-143), 3) := dk_167 255 113 (dk_at dksX5_reels_6 4 rfl rfl)
theorem dX5_reels_151 : decode cX5_reels 151 = .ok (.iload_n 3, 1) := dk_29 (dk_at dksX5_reels_6 7 rfl rfl)
theorem dX5_reels_152 : decode cX5_reels 152 = .ok (.ireturn, 1) := dk_172 (dk_at dksX5_reels_6 8 rfl rfl)
abbrev cX5_generatorFor : ByteArray := prog_14_method_22_code
def yX5_generatorFor : MethodName := ⟨RX5, "generatorFor", "(II)I"⟩
def dkwX5_generatorFor_2 : List UInt8 := [18, 25, 172]
abbrev dktX5_generatorFor_2 : List UInt8 := dkwX5_generatorFor_2 ++ []
def dkwX5_generatorFor_1 : List UInt8 := [180, 0, 7, 16, 50, 5, 29, 104, 96, 4, 96, 46, 28, 161, 0, 5, 29, 172, 132, 3, 1, 167, 255, 214]
abbrev dktX5_generatorFor_1 : List UInt8 := dkwX5_generatorFor_1 ++ dktX5_generatorFor_2
def dkwX5_generatorFor_0 : List UInt8 := [3, 62, 29, 5, 162, 0, 43, 42, 180, 0, 7, 16, 50, 5, 29, 104, 96, 46, 27, 160, 0, 22, 42]
abbrev dktX5_generatorFor_0 : List UInt8 := dkwX5_generatorFor_0 ++ dktX5_generatorFor_1
theorem dksX5_generatorFor_0 : cX5_generatorFor.data.toList.drop 0 = dktX5_generatorFor_0 := by decide +kernel
theorem dksX5_generatorFor_1 : cX5_generatorFor.data.toList.drop 23 = dktX5_generatorFor_1 := dk_seg dksX5_generatorFor_0 23 rfl rfl
theorem dksX5_generatorFor_2 : cX5_generatorFor.data.toList.drop 47 = dktX5_generatorFor_2 := dk_seg dksX5_generatorFor_1 24 rfl rfl
theorem dX5_generatorFor_0 : decode cX5_generatorFor 0 = .ok (.iconst 0, 1) := dk_3 (dk_at dksX5_generatorFor_0 0 rfl rfl)
theorem dX5_generatorFor_1 : decode cX5_generatorFor 1 = .ok (.istore_n 3, 1) := dk_62 (dk_at dksX5_generatorFor_0 1 rfl rfl)
theorem dX5_generatorFor_2 : decode cX5_generatorFor 2 = .ok (.iload_n 3, 1) := dk_29 (dk_at dksX5_generatorFor_0 2 rfl rfl)
theorem dX5_generatorFor_3 : decode cX5_generatorFor 3 = .ok (.iconst 2, 1) := dk_5 (dk_at dksX5_generatorFor_0 3 rfl rfl)
theorem dX5_generatorFor_4 : decode cX5_generatorFor 4 = .ok (.if_icmp .ge 43, 3) := dk_162 0 43 (dk_at dksX5_generatorFor_0 4 rfl rfl)
theorem dX5_generatorFor_7 : decode cX5_generatorFor 7 = .ok (.aload_n 0, 1) := dk_42 (dk_at dksX5_generatorFor_0 7 rfl rfl)
theorem dX5_generatorFor_8 : decode cX5_generatorFor 8 = .ok (.getfield 7, 3) := dk_180 0 7 (dk_at dksX5_generatorFor_0 8 rfl rfl)
theorem dX5_generatorFor_11 : decode cX5_generatorFor 11 = .ok (.bipush 50, 2) := dk_16 50 (dk_at dksX5_generatorFor_0 11 rfl rfl)
theorem dX5_generatorFor_13 : decode cX5_generatorFor 13 = .ok (.iconst 2, 1) := dk_5 (dk_at dksX5_generatorFor_0 13 rfl rfl)
theorem dX5_generatorFor_14 : decode cX5_generatorFor 14 = .ok (.iload_n 3, 1) := dk_29 (dk_at dksX5_generatorFor_0 14 rfl rfl)
theorem dX5_generatorFor_15 : decode cX5_generatorFor 15 = .ok (.imul, 1) := dk_104 (dk_at dksX5_generatorFor_0 15 rfl rfl)
theorem dX5_generatorFor_16 : decode cX5_generatorFor 16 = .ok (.iadd, 1) := dk_96 (dk_at dksX5_generatorFor_0 16 rfl rfl)
theorem dX5_generatorFor_17 : decode cX5_generatorFor 17 = .ok (.iaload, 1) := dk_46 (dk_at dksX5_generatorFor_0 17 rfl rfl)
theorem dX5_generatorFor_18 : decode cX5_generatorFor 18 = .ok (.iload_n 1, 1) := dk_27 (dk_at dksX5_generatorFor_0 18 rfl rfl)
theorem dX5_generatorFor_19 : decode cX5_generatorFor 19 = .ok (.if_icmp .ne 22, 3) := dk_160 0 22 (dk_at dksX5_generatorFor_0 19 rfl rfl)
theorem dX5_generatorFor_22 : decode cX5_generatorFor 22 = .ok (.aload_n 0, 1) := dk_42 (dk_at dksX5_generatorFor_0 22 rfl rfl)
theorem dX5_generatorFor_23 : decode cX5_generatorFor 23 = .ok (.getfield 7, 3) := dk_180 0 7 (dk_at dksX5_generatorFor_1 0 rfl rfl)
theorem dX5_generatorFor_26 : decode cX5_generatorFor 26 = .ok (.bipush 50, 2) := dk_16 50 (dk_at dksX5_generatorFor_1 3 rfl rfl)
theorem dX5_generatorFor_28 : decode cX5_generatorFor 28 = .ok (.iconst 2, 1) := dk_5 (dk_at dksX5_generatorFor_1 5 rfl rfl)
theorem dX5_generatorFor_29 : decode cX5_generatorFor 29 = .ok (.iload_n 3, 1) := dk_29 (dk_at dksX5_generatorFor_1 6 rfl rfl)
theorem dX5_generatorFor_30 : decode cX5_generatorFor 30 = .ok (.imul, 1) := dk_104 (dk_at dksX5_generatorFor_1 7 rfl rfl)
theorem dX5_generatorFor_31 : decode cX5_generatorFor 31 = .ok (.iadd, 1) := dk_96 (dk_at dksX5_generatorFor_1 8 rfl rfl)
theorem dX5_generatorFor_32 : decode cX5_generatorFor 32 = .ok (.iconst 1, 1) := dk_4 (dk_at dksX5_generatorFor_1 9 rfl rfl)
theorem dX5_generatorFor_33 : decode cX5_generatorFor 33 = .ok (.iadd, 1) := dk_96 (dk_at dksX5_generatorFor_1 10 rfl rfl)
theorem dX5_generatorFor_34 : decode cX5_generatorFor 34 = .ok (.iaload, 1) := dk_46 (dk_at dksX5_generatorFor_1 11 rfl rfl)
theorem dX5_generatorFor_35 : decode cX5_generatorFor 35 = .ok (.iload_n 2, 1) := dk_28 (dk_at dksX5_generatorFor_1 12 rfl rfl)
theorem dX5_generatorFor_36 : decode cX5_generatorFor 36 = .ok (.if_icmp .lt 5, 3) := dk_161 0 5 (dk_at dksX5_generatorFor_1 13 rfl rfl)
theorem dX5_generatorFor_39 : decode cX5_generatorFor 39 = .ok (.iload_n 3, 1) := dk_29 (dk_at dksX5_generatorFor_1 16 rfl rfl)
theorem dX5_generatorFor_40 : decode cX5_generatorFor 40 = .ok (.ireturn, 1) := dk_172 (dk_at dksX5_generatorFor_1 17 rfl rfl)
theorem dX5_generatorFor_41 : decode cX5_generatorFor 41 = .ok (.iinc 3 1, 3) := dk_132 3 1 (dk_at dksX5_generatorFor_1 18 rfl rfl)
theorem dX5_generatorFor_44 : decode cX5_generatorFor 44 = .ok (.goto (-42), 3) := dk_167 255 214 (dk_at dksX5_generatorFor_1 21 rfl rfl)
theorem dX5_generatorFor_47 : decode cX5_generatorFor 47 = .ok (.ldc 25, 2) := dk_18 25 (dk_at dksX5_generatorFor_2 0 rfl rfl)
theorem dX5_generatorFor_49 : decode cX5_generatorFor 49 = .ok (.ireturn, 1) := dk_172 (dk_at dksX5_generatorFor_2 2 rfl rfl)
abbrev cX5_shows : ByteArray := prog_14_method_27_code
def yX5_shows : MethodName := ⟨RX5, "shows", "(I)I"⟩
def dkwX5_shows_6 : List UInt8 := [180, 0, 7, 16, 75, 92, 46, 28, 96, 79, 42, 27, 28, 21, 4, 29, 182, 0, 76, 21, 4, 172]
abbrev dktX5_shows_6 : List UInt8 := dkwX5_shows_6 ++ []
def dkwX5_shows_5 : List UInt8 := [16, 62, 27, 96, 92, 46, 4, 96, 79, 42, 180, 0, 7, 16, 67, 27, 96, 92, 46, 21, 4, 96, 79, 42]
abbrev dktX5_shows_5 : List UInt8 := dkwX5_shows_5 ++ dktX5_shows_6
def dkwX5_shows_4 : List UInt8 := [96, 182, 0, 72, 132, 5, 1, 167, 255, 203, 42, 180, 0, 7, 16, 57, 27, 96, 4, 79, 42, 180, 0, 7]
abbrev dktX5_shows_4 : List UInt8 := dkwX5_shows_4 ++ dktX5_shows_5
def dkwX5_shows_3 : List UInt8 := [42, 180, 0, 7, 21, 5, 7, 184, 0, 33, 92, 46, 4, 27, 120, 128, 79, 42, 21, 5, 8, 27, 6, 112]
abbrev dktX5_shows_3 : List UInt8 := dkwX5_shows_3 ++ dktX5_shows_4
def dkwX5_shows_2 : List UInt8 := [54, 5, 21, 5, 16, 10, 162, 0, 52, 42, 180, 0, 7, 21, 5, 3, 184, 0, 33, 46, 27, 160, 0, 31]
abbrev dktX5_shows_2 : List UInt8 := dkwX5_shows_2 ++ dktX5_shows_3
def dkwX5_shows_1 : List UInt8 := [42, 180, 0, 7, 16, 50, 5, 42, 27, 29, 182, 0, 63, 104, 96, 4, 96, 92, 46, 29, 100, 79, 3]
abbrev dktX5_shows_1 : List UInt8 := dkwX5_shows_1 ++ dktX5_shows_2
def dkwX5_shows_0 : List UInt8 := [42, 27, 182, 0, 69, 61, 42, 27, 4, 182, 0, 60, 62, 28, 42, 180, 0, 7, 16, 56, 46, 104, 54, 4]
abbrev dktX5_shows_0 : List UInt8 := dkwX5_shows_0 ++ dktX5_shows_1
theorem dksX5_shows_0 : cX5_shows.data.toList.drop 0 = dktX5_shows_0 := by decide +kernel
theorem dksX5_shows_1 : cX5_shows.data.toList.drop 24 = dktX5_shows_1 := dk_seg dksX5_shows_0 24 rfl rfl
theorem dksX5_shows_2 : cX5_shows.data.toList.drop 47 = dktX5_shows_2 := dk_seg dksX5_shows_1 23 rfl rfl
theorem dksX5_shows_3 : cX5_shows.data.toList.drop 71 = dktX5_shows_3 := dk_seg dksX5_shows_2 24 rfl rfl
theorem dksX5_shows_4 : cX5_shows.data.toList.drop 95 = dktX5_shows_4 := dk_seg dksX5_shows_3 24 rfl rfl
theorem dksX5_shows_5 : cX5_shows.data.toList.drop 119 = dktX5_shows_5 := dk_seg dksX5_shows_4 24 rfl rfl
theorem dksX5_shows_6 : cX5_shows.data.toList.drop 143 = dktX5_shows_6 := dk_seg dksX5_shows_5 24 rfl rfl
theorem dX5_shows_0 : decode cX5_shows 0 = .ok (.aload_n 0, 1) := dk_42 (dk_at dksX5_shows_0 0 rfl rfl)
theorem dX5_shows_1 : decode cX5_shows 1 = .ok (.iload_n 1, 1) := dk_27 (dk_at dksX5_shows_0 1 rfl rfl)
theorem dX5_shows_2 : decode cX5_shows 2 = .ok (.invokevirtual 69, 3) := dk_182 0 69 (dk_at dksX5_shows_0 2 rfl rfl)
theorem dX5_shows_5 : decode cX5_shows 5 = .ok (.istore_n 2, 1) := dk_61 (dk_at dksX5_shows_0 5 rfl rfl)
theorem dX5_shows_6 : decode cX5_shows 6 = .ok (.aload_n 0, 1) := dk_42 (dk_at dksX5_shows_0 6 rfl rfl)
theorem dX5_shows_7 : decode cX5_shows 7 = .ok (.iload_n 1, 1) := dk_27 (dk_at dksX5_shows_0 7 rfl rfl)
theorem dX5_shows_8 : decode cX5_shows 8 = .ok (.iconst 1, 1) := dk_4 (dk_at dksX5_shows_0 8 rfl rfl)
theorem dX5_shows_9 : decode cX5_shows 9 = .ok (.invokevirtual 60, 3) := dk_182 0 60 (dk_at dksX5_shows_0 9 rfl rfl)
theorem dX5_shows_12 : decode cX5_shows 12 = .ok (.istore_n 3, 1) := dk_62 (dk_at dksX5_shows_0 12 rfl rfl)
theorem dX5_shows_13 : decode cX5_shows 13 = .ok (.iload_n 2, 1) := dk_28 (dk_at dksX5_shows_0 13 rfl rfl)
theorem dX5_shows_14 : decode cX5_shows 14 = .ok (.aload_n 0, 1) := dk_42 (dk_at dksX5_shows_0 14 rfl rfl)
theorem dX5_shows_15 : decode cX5_shows 15 = .ok (.getfield 7, 3) := dk_180 0 7 (dk_at dksX5_shows_0 15 rfl rfl)
theorem dX5_shows_18 : decode cX5_shows 18 = .ok (.bipush 56, 2) := dk_16 56 (dk_at dksX5_shows_0 18 rfl rfl)
theorem dX5_shows_20 : decode cX5_shows 20 = .ok (.iaload, 1) := dk_46 (dk_at dksX5_shows_0 20 rfl rfl)
theorem dX5_shows_21 : decode cX5_shows 21 = .ok (.imul, 1) := dk_104 (dk_at dksX5_shows_0 21 rfl rfl)
theorem dX5_shows_22 : decode cX5_shows 22 = .ok (.istore 4, 2) := dk_54 4 (dk_at dksX5_shows_0 22 rfl rfl)
theorem dX5_shows_24 : decode cX5_shows 24 = .ok (.aload_n 0, 1) := dk_42 (dk_at dksX5_shows_1 0 rfl rfl)
theorem dX5_shows_25 : decode cX5_shows 25 = .ok (.getfield 7, 3) := dk_180 0 7 (dk_at dksX5_shows_1 1 rfl rfl)
theorem dX5_shows_28 : decode cX5_shows 28 = .ok (.bipush 50, 2) := dk_16 50 (dk_at dksX5_shows_1 4 rfl rfl)
theorem dX5_shows_30 : decode cX5_shows 30 = .ok (.iconst 2, 1) := dk_5 (dk_at dksX5_shows_1 6 rfl rfl)
theorem dX5_shows_31 : decode cX5_shows 31 = .ok (.aload_n 0, 1) := dk_42 (dk_at dksX5_shows_1 7 rfl rfl)
theorem dX5_shows_32 : decode cX5_shows 32 = .ok (.iload_n 1, 1) := dk_27 (dk_at dksX5_shows_1 8 rfl rfl)
theorem dX5_shows_33 : decode cX5_shows 33 = .ok (.iload_n 3, 1) := dk_29 (dk_at dksX5_shows_1 9 rfl rfl)
theorem dX5_shows_34 : decode cX5_shows 34 = .ok (.invokevirtual 63, 3) := dk_182 0 63 (dk_at dksX5_shows_1 10 rfl rfl)
theorem dX5_shows_37 : decode cX5_shows 37 = .ok (.imul, 1) := dk_104 (dk_at dksX5_shows_1 13 rfl rfl)
theorem dX5_shows_38 : decode cX5_shows 38 = .ok (.iadd, 1) := dk_96 (dk_at dksX5_shows_1 14 rfl rfl)
theorem dX5_shows_39 : decode cX5_shows 39 = .ok (.iconst 1, 1) := dk_4 (dk_at dksX5_shows_1 15 rfl rfl)
theorem dX5_shows_40 : decode cX5_shows 40 = .ok (.iadd, 1) := dk_96 (dk_at dksX5_shows_1 16 rfl rfl)
theorem dX5_shows_41 : decode cX5_shows 41 = .ok (.dup2, 1) := dk_92 (dk_at dksX5_shows_1 17 rfl rfl)
theorem dX5_shows_42 : decode cX5_shows 42 = .ok (.iaload, 1) := dk_46 (dk_at dksX5_shows_1 18 rfl rfl)
theorem dX5_shows_43 : decode cX5_shows 43 = .ok (.iload_n 3, 1) := dk_29 (dk_at dksX5_shows_1 19 rfl rfl)
theorem dX5_shows_44 : decode cX5_shows 44 = .ok (.isub, 1) := dk_100 (dk_at dksX5_shows_1 20 rfl rfl)
theorem dX5_shows_45 : decode cX5_shows 45 = .ok (.iastore, 1) := dk_79 (dk_at dksX5_shows_1 21 rfl rfl)
theorem dX5_shows_46 : decode cX5_shows 46 = .ok (.iconst 0, 1) := dk_3 (dk_at dksX5_shows_1 22 rfl rfl)
theorem dX5_shows_47 : decode cX5_shows 47 = .ok (.istore 5, 2) := dk_54 5 (dk_at dksX5_shows_2 0 rfl rfl)
theorem dX5_shows_49 : decode cX5_shows 49 = .ok (.iload 5, 2) := dk_21 5 (dk_at dksX5_shows_2 2 rfl rfl)
theorem dX5_shows_51 : decode cX5_shows 51 = .ok (.bipush 10, 2) := dk_16 10 (dk_at dksX5_shows_2 4 rfl rfl)
theorem dX5_shows_53 : decode cX5_shows 53 = .ok (.if_icmp .ge 52, 3) := dk_162 0 52 (dk_at dksX5_shows_2 6 rfl rfl)
theorem dX5_shows_56 : decode cX5_shows 56 = .ok (.aload_n 0, 1) := dk_42 (dk_at dksX5_shows_2 9 rfl rfl)
theorem dX5_shows_57 : decode cX5_shows 57 = .ok (.getfield 7, 3) := dk_180 0 7 (dk_at dksX5_shows_2 10 rfl rfl)
theorem dX5_shows_60 : decode cX5_shows 60 = .ok (.iload 5, 2) := dk_21 5 (dk_at dksX5_shows_2 13 rfl rfl)
theorem dX5_shows_62 : decode cX5_shows 62 = .ok (.iconst 0, 1) := dk_3 (dk_at dksX5_shows_2 15 rfl rfl)
theorem dX5_shows_63 : decode cX5_shows 63 = .ok (.invokestatic 33, 3) := dk_184 0 33 (dk_at dksX5_shows_2 16 rfl rfl)
theorem dX5_shows_66 : decode cX5_shows 66 = .ok (.iaload, 1) := dk_46 (dk_at dksX5_shows_2 19 rfl rfl)
theorem dX5_shows_67 : decode cX5_shows 67 = .ok (.iload_n 1, 1) := dk_27 (dk_at dksX5_shows_2 20 rfl rfl)
theorem dX5_shows_68 : decode cX5_shows 68 = .ok (.if_icmp .ne 31, 3) := dk_160 0 31 (dk_at dksX5_shows_2 21 rfl rfl)
theorem dX5_shows_71 : decode cX5_shows 71 = .ok (.aload_n 0, 1) := dk_42 (dk_at dksX5_shows_3 0 rfl rfl)
theorem dX5_shows_72 : decode cX5_shows 72 = .ok (.getfield 7, 3) := dk_180 0 7 (dk_at dksX5_shows_3 1 rfl rfl)
theorem dX5_shows_75 : decode cX5_shows 75 = .ok (.iload 5, 2) := dk_21 5 (dk_at dksX5_shows_3 4 rfl rfl)
theorem dX5_shows_77 : decode cX5_shows 77 = .ok (.iconst 4, 1) := dk_7 (dk_at dksX5_shows_3 6 rfl rfl)
theorem dX5_shows_78 : decode cX5_shows 78 = .ok (.invokestatic 33, 3) := dk_184 0 33 (dk_at dksX5_shows_3 7 rfl rfl)
theorem dX5_shows_81 : decode cX5_shows 81 = .ok (.dup2, 1) := dk_92 (dk_at dksX5_shows_3 10 rfl rfl)
theorem dX5_shows_82 : decode cX5_shows 82 = .ok (.iaload, 1) := dk_46 (dk_at dksX5_shows_3 11 rfl rfl)
theorem dX5_shows_83 : decode cX5_shows 83 = .ok (.iconst 1, 1) := dk_4 (dk_at dksX5_shows_3 12 rfl rfl)
theorem dX5_shows_84 : decode cX5_shows 84 = .ok (.iload_n 1, 1) := dk_27 (dk_at dksX5_shows_3 13 rfl rfl)
theorem dX5_shows_85 : decode cX5_shows 85 = .ok (.ishl, 1) := dk_120 (dk_at dksX5_shows_3 14 rfl rfl)
theorem dX5_shows_86 : decode cX5_shows 86 = .ok (.ior, 1) := dk_128 (dk_at dksX5_shows_3 15 rfl rfl)
theorem dX5_shows_87 : decode cX5_shows 87 = .ok (.iastore, 1) := dk_79 (dk_at dksX5_shows_3 16 rfl rfl)
theorem dX5_shows_88 : decode cX5_shows 88 = .ok (.aload_n 0, 1) := dk_42 (dk_at dksX5_shows_3 17 rfl rfl)
theorem dX5_shows_89 : decode cX5_shows 89 = .ok (.iload 5, 2) := dk_21 5 (dk_at dksX5_shows_3 18 rfl rfl)
theorem dX5_shows_91 : decode cX5_shows 91 = .ok (.iconst 5, 1) := dk_8 (dk_at dksX5_shows_3 20 rfl rfl)
theorem dX5_shows_92 : decode cX5_shows 92 = .ok (.iload_n 1, 1) := dk_27 (dk_at dksX5_shows_3 21 rfl rfl)
theorem dX5_shows_93 : decode cX5_shows 93 = .ok (.iconst 3, 1) := dk_6 (dk_at dksX5_shows_3 22 rfl rfl)
theorem dX5_shows_94 : decode cX5_shows 94 = .ok (.irem, 1) := dk_112 (dk_at dksX5_shows_3 23 rfl rfl)
theorem dX5_shows_95 : decode cX5_shows 95 = .ok (.iadd, 1) := dk_96 (dk_at dksX5_shows_4 0 rfl rfl)
theorem dX5_shows_96 : decode cX5_shows 96 = .ok (.invokevirtual 72, 3) := dk_182 0 72 (dk_at dksX5_shows_4 1 rfl rfl)
theorem dX5_shows_99 : decode cX5_shows 99 = .ok (.iinc 5 1, 3) := dk_132 5 1 (dk_at dksX5_shows_4 4 rfl rfl)
theorem dX5_shows_102 : decode cX5_shows 102 = .ok (.goto (-53), 3) := dk_167 255 203 (dk_at dksX5_shows_4 7 rfl rfl)
theorem dX5_shows_105 : decode cX5_shows 105 = .ok (.aload_n 0, 1) := dk_42 (dk_at dksX5_shows_4 10 rfl rfl)
theorem dX5_shows_106 : decode cX5_shows 106 = .ok (.getfield 7, 3) := dk_180 0 7 (dk_at dksX5_shows_4 11 rfl rfl)
theorem dX5_shows_109 : decode cX5_shows 109 = .ok (.bipush 57, 2) := dk_16 57 (dk_at dksX5_shows_4 14 rfl rfl)
theorem dX5_shows_111 : decode cX5_shows 111 = .ok (.iload_n 1, 1) := dk_27 (dk_at dksX5_shows_4 16 rfl rfl)
theorem dX5_shows_112 : decode cX5_shows 112 = .ok (.iadd, 1) := dk_96 (dk_at dksX5_shows_4 17 rfl rfl)
theorem dX5_shows_113 : decode cX5_shows 113 = .ok (.iconst 1, 1) := dk_4 (dk_at dksX5_shows_4 18 rfl rfl)
theorem dX5_shows_114 : decode cX5_shows 114 = .ok (.iastore, 1) := dk_79 (dk_at dksX5_shows_4 19 rfl rfl)
theorem dX5_shows_115 : decode cX5_shows 115 = .ok (.aload_n 0, 1) := dk_42 (dk_at dksX5_shows_4 20 rfl rfl)
theorem dX5_shows_116 : decode cX5_shows 116 = .ok (.getfield 7, 3) := dk_180 0 7 (dk_at dksX5_shows_4 21 rfl rfl)
theorem dX5_shows_119 : decode cX5_shows 119 = .ok (.bipush 62, 2) := dk_16 62 (dk_at dksX5_shows_5 0 rfl rfl)
theorem dX5_shows_121 : decode cX5_shows 121 = .ok (.iload_n 1, 1) := dk_27 (dk_at dksX5_shows_5 2 rfl rfl)
theorem dX5_shows_122 : decode cX5_shows 122 = .ok (.iadd, 1) := dk_96 (dk_at dksX5_shows_5 3 rfl rfl)
theorem dX5_shows_123 : decode cX5_shows 123 = .ok (.dup2, 1) := dk_92 (dk_at dksX5_shows_5 4 rfl rfl)
theorem dX5_shows_124 : decode cX5_shows 124 = .ok (.iaload, 1) := dk_46 (dk_at dksX5_shows_5 5 rfl rfl)
theorem dX5_shows_125 : decode cX5_shows 125 = .ok (.iconst 1, 1) := dk_4 (dk_at dksX5_shows_5 6 rfl rfl)
theorem dX5_shows_126 : decode cX5_shows 126 = .ok (.iadd, 1) := dk_96 (dk_at dksX5_shows_5 7 rfl rfl)
theorem dX5_shows_127 : decode cX5_shows 127 = .ok (.iastore, 1) := dk_79 (dk_at dksX5_shows_5 8 rfl rfl)
theorem dX5_shows_128 : decode cX5_shows 128 = .ok (.aload_n 0, 1) := dk_42 (dk_at dksX5_shows_5 9 rfl rfl)
theorem dX5_shows_129 : decode cX5_shows 129 = .ok (.getfield 7, 3) := dk_180 0 7 (dk_at dksX5_shows_5 10 rfl rfl)
theorem dX5_shows_132 : decode cX5_shows 132 = .ok (.bipush 67, 2) := dk_16 67 (dk_at dksX5_shows_5 13 rfl rfl)
theorem dX5_shows_134 : decode cX5_shows 134 = .ok (.iload_n 1, 1) := dk_27 (dk_at dksX5_shows_5 15 rfl rfl)
theorem dX5_shows_135 : decode cX5_shows 135 = .ok (.iadd, 1) := dk_96 (dk_at dksX5_shows_5 16 rfl rfl)
theorem dX5_shows_136 : decode cX5_shows 136 = .ok (.dup2, 1) := dk_92 (dk_at dksX5_shows_5 17 rfl rfl)
theorem dX5_shows_137 : decode cX5_shows 137 = .ok (.iaload, 1) := dk_46 (dk_at dksX5_shows_5 18 rfl rfl)
theorem dX5_shows_138 : decode cX5_shows 138 = .ok (.iload 4, 2) := dk_21 4 (dk_at dksX5_shows_5 19 rfl rfl)
theorem dX5_shows_140 : decode cX5_shows 140 = .ok (.iadd, 1) := dk_96 (dk_at dksX5_shows_5 21 rfl rfl)
theorem dX5_shows_141 : decode cX5_shows 141 = .ok (.iastore, 1) := dk_79 (dk_at dksX5_shows_5 22 rfl rfl)
theorem dX5_shows_142 : decode cX5_shows 142 = .ok (.aload_n 0, 1) := dk_42 (dk_at dksX5_shows_5 23 rfl rfl)
theorem dX5_shows_143 : decode cX5_shows 143 = .ok (.getfield 7, 3) := dk_180 0 7 (dk_at dksX5_shows_6 0 rfl rfl)
theorem dX5_shows_146 : decode cX5_shows 146 = .ok (.bipush 75, 2) := dk_16 75 (dk_at dksX5_shows_6 3 rfl rfl)
theorem dX5_shows_148 : decode cX5_shows 148 = .ok (.dup2, 1) := dk_92 (dk_at dksX5_shows_6 5 rfl rfl)
theorem dX5_shows_149 : decode cX5_shows 149 = .ok (.iaload, 1) := dk_46 (dk_at dksX5_shows_6 6 rfl rfl)
theorem dX5_shows_150 : decode cX5_shows 150 = .ok (.iload_n 2, 1) := dk_28 (dk_at dksX5_shows_6 7 rfl rfl)
theorem dX5_shows_151 : decode cX5_shows 151 = .ok (.iadd, 1) := dk_96 (dk_at dksX5_shows_6 8 rfl rfl)
theorem dX5_shows_152 : decode cX5_shows 152 = .ok (.iastore, 1) := dk_79 (dk_at dksX5_shows_6 9 rfl rfl)
theorem dX5_shows_153 : decode cX5_shows 153 = .ok (.aload_n 0, 1) := dk_42 (dk_at dksX5_shows_6 10 rfl rfl)
theorem dX5_shows_154 : decode cX5_shows 154 = .ok (.iload_n 1, 1) := dk_27 (dk_at dksX5_shows_6 11 rfl rfl)
theorem dX5_shows_155 : decode cX5_shows 155 = .ok (.iload_n 2, 1) := dk_28 (dk_at dksX5_shows_6 12 rfl rfl)
theorem dX5_shows_156 : decode cX5_shows 156 = .ok (.iload 4, 2) := dk_21 4 (dk_at dksX5_shows_6 13 rfl rfl)
theorem dX5_shows_158 : decode cX5_shows 158 = .ok (.iload_n 3, 1) := dk_29 (dk_at dksX5_shows_6 15 rfl rfl)
theorem dX5_shows_159 : decode cX5_shows 159 = .ok (.invokevirtual 76, 3) := dk_182 0 76 (dk_at dksX5_shows_6 16 rfl rfl)
theorem dX5_shows_162 : decode cX5_shows 162 = .ok (.iload 4, 2) := dk_21 4 (dk_at dksX5_shows_6 19 rfl rfl)
theorem dX5_shows_164 : decode cX5_shows 164 = .ok (.ireturn, 1) := dk_172 (dk_at dksX5_shows_6 21 rfl rfl)
abbrev cX5_peopleAt : ByteArray := prog_14_method_24_code
def yX5_peopleAt : MethodName := ⟨RX5, "peopleAt", "(I)I"⟩
def dkwX5_peopleAt_2 : List UInt8 := [167, 0, 4, 29, 172]
abbrev dktX5_peopleAt_2 : List UInt8 := dkwX5_peopleAt_2 ++ []
def dkwX5_peopleAt_1 : List UInt8 := [182, 0, 60, 104, 28, 108, 42, 27, 5, 182, 0, 60, 16, 10, 108, 100, 62, 29, 156, 0, 7, 3]
abbrev dktX5_peopleAt_1 : List UInt8 := dkwX5_peopleAt_1 ++ dktX5_peopleAt_2
def dkwX5_peopleAt_0 : List UInt8 := [42, 27, 3, 182, 0, 60, 61, 28, 154, 0, 7, 3, 167, 0, 26, 27, 184, 0, 66, 42, 27, 6]
abbrev dktX5_peopleAt_0 : List UInt8 := dkwX5_peopleAt_0 ++ dktX5_peopleAt_1
theorem dksX5_peopleAt_0 : cX5_peopleAt.data.toList.drop 0 = dktX5_peopleAt_0 := by decide +kernel
theorem dksX5_peopleAt_1 : cX5_peopleAt.data.toList.drop 22 = dktX5_peopleAt_1 := dk_seg dksX5_peopleAt_0 22 rfl rfl
theorem dksX5_peopleAt_2 : cX5_peopleAt.data.toList.drop 44 = dktX5_peopleAt_2 := dk_seg dksX5_peopleAt_1 22 rfl rfl
theorem dX5_peopleAt_0 : decode cX5_peopleAt 0 = .ok (.aload_n 0, 1) := dk_42 (dk_at dksX5_peopleAt_0 0 rfl rfl)
theorem dX5_peopleAt_1 : decode cX5_peopleAt 1 = .ok (.iload_n 1, 1) := dk_27 (dk_at dksX5_peopleAt_0 1 rfl rfl)
theorem dX5_peopleAt_2 : decode cX5_peopleAt 2 = .ok (.iconst 0, 1) := dk_3 (dk_at dksX5_peopleAt_0 2 rfl rfl)
theorem dX5_peopleAt_3 : decode cX5_peopleAt 3 = .ok (.invokevirtual 60, 3) := dk_182 0 60 (dk_at dksX5_peopleAt_0 3 rfl rfl)
theorem dX5_peopleAt_6 : decode cX5_peopleAt 6 = .ok (.istore_n 2, 1) := dk_61 (dk_at dksX5_peopleAt_0 6 rfl rfl)
theorem dX5_peopleAt_7 : decode cX5_peopleAt 7 = .ok (.iload_n 2, 1) := dk_28 (dk_at dksX5_peopleAt_0 7 rfl rfl)
theorem dX5_peopleAt_8 : decode cX5_peopleAt 8 = .ok (.ifCond .ne 7, 3) := dk_154 0 7 (dk_at dksX5_peopleAt_0 8 rfl rfl)
theorem dX5_peopleAt_11 : decode cX5_peopleAt 11 = .ok (.iconst 0, 1) := dk_3 (dk_at dksX5_peopleAt_0 11 rfl rfl)
theorem dX5_peopleAt_12 : decode cX5_peopleAt 12 = .ok (.goto 26, 3) := dk_167 0 26 (dk_at dksX5_peopleAt_0 12 rfl rfl)
theorem dX5_peopleAt_15 : decode cX5_peopleAt 15 = .ok (.iload_n 1, 1) := dk_27 (dk_at dksX5_peopleAt_0 15 rfl rfl)
theorem dX5_peopleAt_16 : decode cX5_peopleAt 16 = .ok (.invokestatic 66, 3) := dk_184 0 66 (dk_at dksX5_peopleAt_0 16 rfl rfl)
theorem dX5_peopleAt_19 : decode cX5_peopleAt 19 = .ok (.aload_n 0, 1) := dk_42 (dk_at dksX5_peopleAt_0 19 rfl rfl)
theorem dX5_peopleAt_20 : decode cX5_peopleAt 20 = .ok (.iload_n 1, 1) := dk_27 (dk_at dksX5_peopleAt_0 20 rfl rfl)
theorem dX5_peopleAt_21 : decode cX5_peopleAt 21 = .ok (.iconst 3, 1) := dk_6 (dk_at dksX5_peopleAt_0 21 rfl rfl)
theorem dX5_peopleAt_22 : decode cX5_peopleAt 22 = .ok (.invokevirtual 60, 3) := dk_182 0 60 (dk_at dksX5_peopleAt_1 0 rfl rfl)
theorem dX5_peopleAt_25 : decode cX5_peopleAt 25 = .ok (.imul, 1) := dk_104 (dk_at dksX5_peopleAt_1 3 rfl rfl)
theorem dX5_peopleAt_26 : decode cX5_peopleAt 26 = .ok (.iload_n 2, 1) := dk_28 (dk_at dksX5_peopleAt_1 4 rfl rfl)
theorem dX5_peopleAt_27 : decode cX5_peopleAt 27 = .ok (.idiv, 1) := dk_108 (dk_at dksX5_peopleAt_1 5 rfl rfl)
theorem dX5_peopleAt_28 : decode cX5_peopleAt 28 = .ok (.aload_n 0, 1) := dk_42 (dk_at dksX5_peopleAt_1 6 rfl rfl)
theorem dX5_peopleAt_29 : decode cX5_peopleAt 29 = .ok (.iload_n 1, 1) := dk_27 (dk_at dksX5_peopleAt_1 7 rfl rfl)
theorem dX5_peopleAt_30 : decode cX5_peopleAt 30 = .ok (.iconst 2, 1) := dk_5 (dk_at dksX5_peopleAt_1 8 rfl rfl)
theorem dX5_peopleAt_31 : decode cX5_peopleAt 31 = .ok (.invokevirtual 60, 3) := dk_182 0 60 (dk_at dksX5_peopleAt_1 9 rfl rfl)
theorem dX5_peopleAt_34 : decode cX5_peopleAt 34 = .ok (.bipush 10, 2) := dk_16 10 (dk_at dksX5_peopleAt_1 12 rfl rfl)
theorem dX5_peopleAt_36 : decode cX5_peopleAt 36 = .ok (.idiv, 1) := dk_108 (dk_at dksX5_peopleAt_1 14 rfl rfl)
theorem dX5_peopleAt_37 : decode cX5_peopleAt 37 = .ok (.isub, 1) := dk_100 (dk_at dksX5_peopleAt_1 15 rfl rfl)
theorem dX5_peopleAt_38 : decode cX5_peopleAt 38 = .ok (.istore_n 3, 1) := dk_62 (dk_at dksX5_peopleAt_1 16 rfl rfl)
theorem dX5_peopleAt_39 : decode cX5_peopleAt 39 = .ok (.iload_n 3, 1) := dk_29 (dk_at dksX5_peopleAt_1 17 rfl rfl)
theorem dX5_peopleAt_40 : decode cX5_peopleAt 40 = .ok (.ifCond .ge 7, 3) := dk_156 0 7 (dk_at dksX5_peopleAt_1 18 rfl rfl)
theorem dX5_peopleAt_43 : decode cX5_peopleAt 43 = .ok (.iconst 0, 1) := dk_3 (dk_at dksX5_peopleAt_1 21 rfl rfl)
theorem dX5_peopleAt_44 : decode cX5_peopleAt 44 = .ok (.goto 4, 3) := dk_167 0 4 (dk_at dksX5_peopleAt_2 0 rfl rfl)
theorem dX5_peopleAt_47 : decode cX5_peopleAt 47 = .ok (.iload_n 3, 1) := dk_29 (dk_at dksX5_peopleAt_2 3 rfl rfl)
theorem dX5_peopleAt_48 : decode cX5_peopleAt 48 = .ok (.ireturn, 1) := dk_172 (dk_at dksX5_peopleAt_2 4 rfl rfl)
abbrev cX5_seats : ByteArray := prog_14_method_9_code
def yX5_seats : MethodName := ⟨RX5, "seats", "(I)I"⟩
def dkwX5_seats_1 : List UInt8 := [16, 80, 167, 0, 15, 26, 6, 160, 0, 8, 16, 50, 167, 0, 5, 16, 30, 172]
abbrev dktX5_seats_1 : List UInt8 := dkwX5_seats_1 ++ []
def dkwX5_seats_0 : List UInt8 := [26, 154, 0, 8, 16, 40, 167, 0, 35, 26, 4, 160, 0, 8, 16, 60, 167, 0, 25, 26, 5, 160, 0, 8]
abbrev dktX5_seats_0 : List UInt8 := dkwX5_seats_0 ++ dktX5_seats_1
theorem dksX5_seats_0 : cX5_seats.data.toList.drop 0 = dktX5_seats_0 := by decide +kernel
theorem dksX5_seats_1 : cX5_seats.data.toList.drop 24 = dktX5_seats_1 := dk_seg dksX5_seats_0 24 rfl rfl
theorem dX5_seats_0 : decode cX5_seats 0 = .ok (.iload_n 0, 1) := dk_26 (dk_at dksX5_seats_0 0 rfl rfl)
theorem dX5_seats_1 : decode cX5_seats 1 = .ok (.ifCond .ne 8, 3) := dk_154 0 8 (dk_at dksX5_seats_0 1 rfl rfl)
theorem dX5_seats_4 : decode cX5_seats 4 = .ok (.bipush 40, 2) := dk_16 40 (dk_at dksX5_seats_0 4 rfl rfl)
theorem dX5_seats_6 : decode cX5_seats 6 = .ok (.goto 35, 3) := dk_167 0 35 (dk_at dksX5_seats_0 6 rfl rfl)
theorem dX5_seats_9 : decode cX5_seats 9 = .ok (.iload_n 0, 1) := dk_26 (dk_at dksX5_seats_0 9 rfl rfl)
theorem dX5_seats_10 : decode cX5_seats 10 = .ok (.iconst 1, 1) := dk_4 (dk_at dksX5_seats_0 10 rfl rfl)
theorem dX5_seats_11 : decode cX5_seats 11 = .ok (.if_icmp .ne 8, 3) := dk_160 0 8 (dk_at dksX5_seats_0 11 rfl rfl)
theorem dX5_seats_14 : decode cX5_seats 14 = .ok (.bipush 60, 2) := dk_16 60 (dk_at dksX5_seats_0 14 rfl rfl)
theorem dX5_seats_16 : decode cX5_seats 16 = .ok (.goto 25, 3) := dk_167 0 25 (dk_at dksX5_seats_0 16 rfl rfl)
theorem dX5_seats_19 : decode cX5_seats 19 = .ok (.iload_n 0, 1) := dk_26 (dk_at dksX5_seats_0 19 rfl rfl)
theorem dX5_seats_20 : decode cX5_seats 20 = .ok (.iconst 2, 1) := dk_5 (dk_at dksX5_seats_0 20 rfl rfl)
theorem dX5_seats_21 : decode cX5_seats 21 = .ok (.if_icmp .ne 8, 3) := dk_160 0 8 (dk_at dksX5_seats_0 21 rfl rfl)
theorem dX5_seats_24 : decode cX5_seats 24 = .ok (.bipush 80, 2) := dk_16 80 (dk_at dksX5_seats_1 0 rfl rfl)
theorem dX5_seats_26 : decode cX5_seats 26 = .ok (.goto 15, 3) := dk_167 0 15 (dk_at dksX5_seats_1 2 rfl rfl)
theorem dX5_seats_29 : decode cX5_seats 29 = .ok (.iload_n 0, 1) := dk_26 (dk_at dksX5_seats_1 5 rfl rfl)
theorem dX5_seats_30 : decode cX5_seats 30 = .ok (.iconst 3, 1) := dk_6 (dk_at dksX5_seats_1 6 rfl rfl)
theorem dX5_seats_31 : decode cX5_seats 31 = .ok (.if_icmp .ne 8, 3) := dk_160 0 8 (dk_at dksX5_seats_1 7 rfl rfl)
theorem dX5_seats_34 : decode cX5_seats 34 = .ok (.bipush 50, 2) := dk_16 50 (dk_at dksX5_seats_1 10 rfl rfl)
theorem dX5_seats_36 : decode cX5_seats 36 = .ok (.goto 5, 3) := dk_167 0 5 (dk_at dksX5_seats_1 12 rfl rfl)
theorem dX5_seats_39 : decode cX5_seats 39 = .ok (.bipush 30, 2) := dk_16 30 (dk_at dksX5_seats_1 15 rfl rfl)
theorem dX5_seats_41 : decode cX5_seats 41 = .ok (.ireturn, 1) := dk_172 (dk_at dksX5_seats_1 17 rfl rfl)
abbrev cX5_wear : ByteArray := prog_14_method_25_code
def yX5_wear : MethodName := ⟨RX5, "wear", "(II)V"⟩
def dkwX5_wear_5 : List UInt8 := [184, 0, 33, 46, 79, 177]
abbrev dktX5_wear_5 : List UInt8 := dkwX5_wear_5 ++ []
def dkwX5_wear_4 : List UInt8 := [180, 0, 7, 27, 4, 184, 0, 33, 46, 6, 162, 0, 8, 16, 254, 167, 0, 13, 42, 180, 0, 7, 27, 3]
abbrev dktX5_wear_4 : List UInt8 := dkwX5_wear_4 ++ dktX5_wear_5
def dkwX5_wear_3 : List UInt8 := [42, 180, 0, 7, 16, 76, 92, 46, 4, 96, 79, 167, 255, 187, 42, 180, 0, 7, 27, 3, 184, 0, 33, 42]
abbrev dktX5_wear_3 : List UInt8 := dkwX5_wear_3 ++ dktX5_wear_4
def dkwX5_wear_2 : List UInt8 := [27, 4, 184, 0, 33, 92, 46, 4, 100, 79, 42, 180, 0, 7, 27, 6, 184, 0, 33, 92, 46, 4, 96, 79]
abbrev dktX5_wear_2 : List UInt8 := dkwX5_wear_2 ++ dktX5_wear_3
def dkwX5_wear_1 : List UInt8 := [16, 40, 161, 0, 60, 42, 180, 0, 7, 27, 5, 184, 0, 33, 92, 46, 16, 20, 100, 79, 42, 180, 0, 7]
abbrev dktX5_wear_1 : List UInt8 := dkwX5_wear_1 ++ dktX5_wear_2
def dkwX5_wear_0 : List UInt8 := [42, 180, 0, 7, 27, 5, 184, 0, 33, 92, 46, 28, 96, 79, 42, 180, 0, 7, 27, 5, 184, 0, 33, 46]
abbrev dktX5_wear_0 : List UInt8 := dkwX5_wear_0 ++ dktX5_wear_1
theorem dksX5_wear_0 : cX5_wear.data.toList.drop 0 = dktX5_wear_0 := by decide +kernel
theorem dksX5_wear_1 : cX5_wear.data.toList.drop 24 = dktX5_wear_1 := dk_seg dksX5_wear_0 24 rfl rfl
theorem dksX5_wear_2 : cX5_wear.data.toList.drop 48 = dktX5_wear_2 := dk_seg dksX5_wear_1 24 rfl rfl
theorem dksX5_wear_3 : cX5_wear.data.toList.drop 72 = dktX5_wear_3 := dk_seg dksX5_wear_2 24 rfl rfl
theorem dksX5_wear_4 : cX5_wear.data.toList.drop 96 = dktX5_wear_4 := dk_seg dksX5_wear_3 24 rfl rfl
theorem dksX5_wear_5 : cX5_wear.data.toList.drop 120 = dktX5_wear_5 := dk_seg dksX5_wear_4 24 rfl rfl
theorem dX5_wear_0 : decode cX5_wear 0 = .ok (.aload_n 0, 1) := dk_42 (dk_at dksX5_wear_0 0 rfl rfl)
theorem dX5_wear_1 : decode cX5_wear 1 = .ok (.getfield 7, 3) := dk_180 0 7 (dk_at dksX5_wear_0 1 rfl rfl)
theorem dX5_wear_4 : decode cX5_wear 4 = .ok (.iload_n 1, 1) := dk_27 (dk_at dksX5_wear_0 4 rfl rfl)
theorem dX5_wear_5 : decode cX5_wear 5 = .ok (.iconst 2, 1) := dk_5 (dk_at dksX5_wear_0 5 rfl rfl)
theorem dX5_wear_6 : decode cX5_wear 6 = .ok (.invokestatic 33, 3) := dk_184 0 33 (dk_at dksX5_wear_0 6 rfl rfl)
theorem dX5_wear_9 : decode cX5_wear 9 = .ok (.dup2, 1) := dk_92 (dk_at dksX5_wear_0 9 rfl rfl)
theorem dX5_wear_10 : decode cX5_wear 10 = .ok (.iaload, 1) := dk_46 (dk_at dksX5_wear_0 10 rfl rfl)
theorem dX5_wear_11 : decode cX5_wear 11 = .ok (.iload_n 2, 1) := dk_28 (dk_at dksX5_wear_0 11 rfl rfl)
theorem dX5_wear_12 : decode cX5_wear 12 = .ok (.iadd, 1) := dk_96 (dk_at dksX5_wear_0 12 rfl rfl)
theorem dX5_wear_13 : decode cX5_wear 13 = .ok (.iastore, 1) := dk_79 (dk_at dksX5_wear_0 13 rfl rfl)
theorem dX5_wear_14 : decode cX5_wear 14 = .ok (.aload_n 0, 1) := dk_42 (dk_at dksX5_wear_0 14 rfl rfl)
theorem dX5_wear_15 : decode cX5_wear 15 = .ok (.getfield 7, 3) := dk_180 0 7 (dk_at dksX5_wear_0 15 rfl rfl)
theorem dX5_wear_18 : decode cX5_wear 18 = .ok (.iload_n 1, 1) := dk_27 (dk_at dksX5_wear_0 18 rfl rfl)
theorem dX5_wear_19 : decode cX5_wear 19 = .ok (.iconst 2, 1) := dk_5 (dk_at dksX5_wear_0 19 rfl rfl)
theorem dX5_wear_20 : decode cX5_wear 20 = .ok (.invokestatic 33, 3) := dk_184 0 33 (dk_at dksX5_wear_0 20 rfl rfl)
theorem dX5_wear_23 : decode cX5_wear 23 = .ok (.iaload, 1) := dk_46 (dk_at dksX5_wear_0 23 rfl rfl)
theorem dX5_wear_24 : decode cX5_wear 24 = .ok (.bipush 40, 2) := dk_16 40 (dk_at dksX5_wear_1 0 rfl rfl)
theorem dX5_wear_26 : decode cX5_wear 26 = .ok (.if_icmp .lt 60, 3) := dk_161 0 60 (dk_at dksX5_wear_1 2 rfl rfl)
theorem dX5_wear_29 : decode cX5_wear 29 = .ok (.aload_n 0, 1) := dk_42 (dk_at dksX5_wear_1 5 rfl rfl)
theorem dX5_wear_30 : decode cX5_wear 30 = .ok (.getfield 7, 3) := dk_180 0 7 (dk_at dksX5_wear_1 6 rfl rfl)
theorem dX5_wear_33 : decode cX5_wear 33 = .ok (.iload_n 1, 1) := dk_27 (dk_at dksX5_wear_1 9 rfl rfl)
theorem dX5_wear_34 : decode cX5_wear 34 = .ok (.iconst 2, 1) := dk_5 (dk_at dksX5_wear_1 10 rfl rfl)
theorem dX5_wear_35 : decode cX5_wear 35 = .ok (.invokestatic 33, 3) := dk_184 0 33 (dk_at dksX5_wear_1 11 rfl rfl)
theorem dX5_wear_38 : decode cX5_wear 38 = .ok (.dup2, 1) := dk_92 (dk_at dksX5_wear_1 14 rfl rfl)
theorem dX5_wear_39 : decode cX5_wear 39 = .ok (.iaload, 1) := dk_46 (dk_at dksX5_wear_1 15 rfl rfl)
theorem dX5_wear_40 : decode cX5_wear 40 = .ok (.bipush 20, 2) := dk_16 20 (dk_at dksX5_wear_1 16 rfl rfl)
theorem dX5_wear_42 : decode cX5_wear 42 = .ok (.isub, 1) := dk_100 (dk_at dksX5_wear_1 18 rfl rfl)
theorem dX5_wear_43 : decode cX5_wear 43 = .ok (.iastore, 1) := dk_79 (dk_at dksX5_wear_1 19 rfl rfl)
theorem dX5_wear_44 : decode cX5_wear 44 = .ok (.aload_n 0, 1) := dk_42 (dk_at dksX5_wear_1 20 rfl rfl)
theorem dX5_wear_45 : decode cX5_wear 45 = .ok (.getfield 7, 3) := dk_180 0 7 (dk_at dksX5_wear_1 21 rfl rfl)
theorem dX5_wear_48 : decode cX5_wear 48 = .ok (.iload_n 1, 1) := dk_27 (dk_at dksX5_wear_2 0 rfl rfl)
theorem dX5_wear_49 : decode cX5_wear 49 = .ok (.iconst 1, 1) := dk_4 (dk_at dksX5_wear_2 1 rfl rfl)
theorem dX5_wear_50 : decode cX5_wear 50 = .ok (.invokestatic 33, 3) := dk_184 0 33 (dk_at dksX5_wear_2 2 rfl rfl)
theorem dX5_wear_53 : decode cX5_wear 53 = .ok (.dup2, 1) := dk_92 (dk_at dksX5_wear_2 5 rfl rfl)
theorem dX5_wear_54 : decode cX5_wear 54 = .ok (.iaload, 1) := dk_46 (dk_at dksX5_wear_2 6 rfl rfl)
theorem dX5_wear_55 : decode cX5_wear 55 = .ok (.iconst 1, 1) := dk_4 (dk_at dksX5_wear_2 7 rfl rfl)
theorem dX5_wear_56 : decode cX5_wear 56 = .ok (.isub, 1) := dk_100 (dk_at dksX5_wear_2 8 rfl rfl)
theorem dX5_wear_57 : decode cX5_wear 57 = .ok (.iastore, 1) := dk_79 (dk_at dksX5_wear_2 9 rfl rfl)
theorem dX5_wear_58 : decode cX5_wear 58 = .ok (.aload_n 0, 1) := dk_42 (dk_at dksX5_wear_2 10 rfl rfl)
theorem dX5_wear_59 : decode cX5_wear 59 = .ok (.getfield 7, 3) := dk_180 0 7 (dk_at dksX5_wear_2 11 rfl rfl)
theorem dX5_wear_62 : decode cX5_wear 62 = .ok (.iload_n 1, 1) := dk_27 (dk_at dksX5_wear_2 14 rfl rfl)
theorem dX5_wear_63 : decode cX5_wear 63 = .ok (.iconst 3, 1) := dk_6 (dk_at dksX5_wear_2 15 rfl rfl)
theorem dX5_wear_64 : decode cX5_wear 64 = .ok (.invokestatic 33, 3) := dk_184 0 33 (dk_at dksX5_wear_2 16 rfl rfl)
theorem dX5_wear_67 : decode cX5_wear 67 = .ok (.dup2, 1) := dk_92 (dk_at dksX5_wear_2 19 rfl rfl)
theorem dX5_wear_68 : decode cX5_wear 68 = .ok (.iaload, 1) := dk_46 (dk_at dksX5_wear_2 20 rfl rfl)
theorem dX5_wear_69 : decode cX5_wear 69 = .ok (.iconst 1, 1) := dk_4 (dk_at dksX5_wear_2 21 rfl rfl)
theorem dX5_wear_70 : decode cX5_wear 70 = .ok (.iadd, 1) := dk_96 (dk_at dksX5_wear_2 22 rfl rfl)
theorem dX5_wear_71 : decode cX5_wear 71 = .ok (.iastore, 1) := dk_79 (dk_at dksX5_wear_2 23 rfl rfl)
theorem dX5_wear_72 : decode cX5_wear 72 = .ok (.aload_n 0, 1) := dk_42 (dk_at dksX5_wear_3 0 rfl rfl)
theorem dX5_wear_73 : decode cX5_wear 73 = .ok (.getfield 7, 3) := dk_180 0 7 (dk_at dksX5_wear_3 1 rfl rfl)
theorem dX5_wear_76 : decode cX5_wear 76 = .ok (.bipush 76, 2) := dk_16 76 (dk_at dksX5_wear_3 4 rfl rfl)
theorem dX5_wear_78 : decode cX5_wear 78 = .ok (.dup2, 1) := dk_92 (dk_at dksX5_wear_3 6 rfl rfl)
theorem dX5_wear_79 : decode cX5_wear 79 = .ok (.iaload, 1) := dk_46 (dk_at dksX5_wear_3 7 rfl rfl)
theorem dX5_wear_80 : decode cX5_wear 80 = .ok (.iconst 1, 1) := dk_4 (dk_at dksX5_wear_3 8 rfl rfl)
theorem dX5_wear_81 : decode cX5_wear 81 = .ok (.iadd, 1) := dk_96 (dk_at dksX5_wear_3 9 rfl rfl)
theorem dX5_wear_82 : decode cX5_wear 82 = .ok (.iastore, 1) := dk_79 (dk_at dksX5_wear_3 10 rfl rfl)
theorem dX5_wear_83 : decode cX5_wear 83 = .ok (.goto (-69), 3) := dk_167 255 187 (dk_at dksX5_wear_3 11 rfl rfl)
theorem dX5_wear_86 : decode cX5_wear 86 = .ok (.aload_n 0, 1) := dk_42 (dk_at dksX5_wear_3 14 rfl rfl)
theorem dX5_wear_87 : decode cX5_wear 87 = .ok (.getfield 7, 3) := dk_180 0 7 (dk_at dksX5_wear_3 15 rfl rfl)
theorem dX5_wear_90 : decode cX5_wear 90 = .ok (.iload_n 1, 1) := dk_27 (dk_at dksX5_wear_3 18 rfl rfl)
theorem dX5_wear_91 : decode cX5_wear 91 = .ok (.iconst 0, 1) := dk_3 (dk_at dksX5_wear_3 19 rfl rfl)
theorem dX5_wear_92 : decode cX5_wear 92 = .ok (.invokestatic 33, 3) := dk_184 0 33 (dk_at dksX5_wear_3 20 rfl rfl)
theorem dX5_wear_95 : decode cX5_wear 95 = .ok (.aload_n 0, 1) := dk_42 (dk_at dksX5_wear_3 23 rfl rfl)
theorem dX5_wear_96 : decode cX5_wear 96 = .ok (.getfield 7, 3) := dk_180 0 7 (dk_at dksX5_wear_4 0 rfl rfl)
theorem dX5_wear_99 : decode cX5_wear 99 = .ok (.iload_n 1, 1) := dk_27 (dk_at dksX5_wear_4 3 rfl rfl)
theorem dX5_wear_100 : decode cX5_wear 100 = .ok (.iconst 1, 1) := dk_4 (dk_at dksX5_wear_4 4 rfl rfl)
theorem dX5_wear_101 : decode cX5_wear 101 = .ok (.invokestatic 33, 3) := dk_184 0 33 (dk_at dksX5_wear_4 5 rfl rfl)
theorem dX5_wear_104 : decode cX5_wear 104 = .ok (.iaload, 1) := dk_46 (dk_at dksX5_wear_4 8 rfl rfl)
theorem dX5_wear_105 : decode cX5_wear 105 = .ok (.iconst 3, 1) := dk_6 (dk_at dksX5_wear_4 9 rfl rfl)
theorem dX5_wear_106 : decode cX5_wear 106 = .ok (.if_icmp .ge 8, 3) := dk_162 0 8 (dk_at dksX5_wear_4 10 rfl rfl)
theorem dX5_wear_109 : decode cX5_wear 109 = .ok (.bipush (-2), 2) := dk_16 254 (dk_at dksX5_wear_4 13 rfl rfl)
theorem dX5_wear_111 : decode cX5_wear 111 = .ok (.goto 13, 3) := dk_167 0 13 (dk_at dksX5_wear_4 15 rfl rfl)
theorem dX5_wear_114 : decode cX5_wear 114 = .ok (.aload_n 0, 1) := dk_42 (dk_at dksX5_wear_4 18 rfl rfl)
theorem dX5_wear_115 : decode cX5_wear 115 = .ok (.getfield 7, 3) := dk_180 0 7 (dk_at dksX5_wear_4 19 rfl rfl)
theorem dX5_wear_118 : decode cX5_wear 118 = .ok (.iload_n 1, 1) := dk_27 (dk_at dksX5_wear_4 22 rfl rfl)
theorem dX5_wear_119 : decode cX5_wear 119 = .ok (.iconst 0, 1) := dk_3 (dk_at dksX5_wear_4 23 rfl rfl)
theorem dX5_wear_120 : decode cX5_wear 120 = .ok (.invokestatic 33, 3) := dk_184 0 33 (dk_at dksX5_wear_5 0 rfl rfl)
theorem dX5_wear_123 : decode cX5_wear 123 = .ok (.iaload, 1) := dk_46 (dk_at dksX5_wear_5 3 rfl rfl)
theorem dX5_wear_124 : decode cX5_wear 124 = .ok (.iastore, 1) := dk_79 (dk_at dksX5_wear_5 4 rfl rfl)
theorem dX5_wear_125 : decode cX5_wear 125 = .ok (.return_, 1) := dk_177 (dk_at dksX5_wear_5 5 rfl rfl)
abbrev cX5_log : ByteArray := prog_14_method_26_code
def yX5_log : MethodName := ⟨RX5, "log", "(IIII)V"⟩
def dkwX5_log_4 : List UInt8 := [42, 180, 0, 7, 16, 77, 46, 16, 6, 162, 0, 7, 4, 167, 0, 4, 3, 96, 79, 177]
abbrev dktX5_log_4 : List UInt8 := dkwX5_log_4 ++ []
def dkwX5_log_3 : List UInt8 := [180, 0, 7, 16, 81, 29, 79, 42, 180, 0, 7, 16, 82, 21, 4, 79, 42, 180, 0, 7, 16, 77, 92, 46]
abbrev dktX5_log_3 : List UInt8 := dkwX5_log_3 ++ dktX5_log_4
def dkwX5_log_2 : List UInt8 := [180, 0, 7, 16, 55, 46, 79, 42, 180, 0, 7, 16, 79, 27, 79, 42, 180, 0, 7, 16, 80, 28, 79, 42]
abbrev dktX5_log_2 : List UInt8 := dkwX5_log_2 ++ dktX5_log_3
def dkwX5_log_1 : List UInt8 := [16, 78, 21, 5, 96, 8, 100, 46, 79, 132, 5, 255, 167, 255, 225, 42, 180, 0, 7, 16, 78, 42]
abbrev dktX5_log_1 : List UInt8 := dkwX5_log_1 ++ dktX5_log_2
def dkwX5_log_0 : List UInt8 := [16, 29, 54, 5, 21, 5, 8, 161, 0, 31, 42, 180, 0, 7, 16, 78, 21, 5, 96, 42, 180, 0, 7]
abbrev dktX5_log_0 : List UInt8 := dkwX5_log_0 ++ dktX5_log_1
theorem dksX5_log_0 : cX5_log.data.toList.drop 0 = dktX5_log_0 := by decide +kernel
theorem dksX5_log_1 : cX5_log.data.toList.drop 23 = dktX5_log_1 := dk_seg dksX5_log_0 23 rfl rfl
theorem dksX5_log_2 : cX5_log.data.toList.drop 45 = dktX5_log_2 := dk_seg dksX5_log_1 22 rfl rfl
theorem dksX5_log_3 : cX5_log.data.toList.drop 69 = dktX5_log_3 := dk_seg dksX5_log_2 24 rfl rfl
theorem dksX5_log_4 : cX5_log.data.toList.drop 93 = dktX5_log_4 := dk_seg dksX5_log_3 24 rfl rfl
theorem dX5_log_0 : decode cX5_log 0 = .ok (.bipush 29, 2) := dk_16 29 (dk_at dksX5_log_0 0 rfl rfl)
theorem dX5_log_2 : decode cX5_log 2 = .ok (.istore 5, 2) := dk_54 5 (dk_at dksX5_log_0 2 rfl rfl)
theorem dX5_log_4 : decode cX5_log 4 = .ok (.iload 5, 2) := dk_21 5 (dk_at dksX5_log_0 4 rfl rfl)
theorem dX5_log_6 : decode cX5_log 6 = .ok (.iconst 5, 1) := dk_8 (dk_at dksX5_log_0 6 rfl rfl)
theorem dX5_log_7 : decode cX5_log 7 = .ok (.if_icmp .lt 31, 3) := dk_161 0 31 (dk_at dksX5_log_0 7 rfl rfl)
theorem dX5_log_10 : decode cX5_log 10 = .ok (.aload_n 0, 1) := dk_42 (dk_at dksX5_log_0 10 rfl rfl)
theorem dX5_log_11 : decode cX5_log 11 = .ok (.getfield 7, 3) := dk_180 0 7 (dk_at dksX5_log_0 11 rfl rfl)
theorem dX5_log_14 : decode cX5_log 14 = .ok (.bipush 78, 2) := dk_16 78 (dk_at dksX5_log_0 14 rfl rfl)
theorem dX5_log_16 : decode cX5_log 16 = .ok (.iload 5, 2) := dk_21 5 (dk_at dksX5_log_0 16 rfl rfl)
theorem dX5_log_18 : decode cX5_log 18 = .ok (.iadd, 1) := dk_96 (dk_at dksX5_log_0 18 rfl rfl)
theorem dX5_log_19 : decode cX5_log 19 = .ok (.aload_n 0, 1) := dk_42 (dk_at dksX5_log_0 19 rfl rfl)
theorem dX5_log_20 : decode cX5_log 20 = .ok (.getfield 7, 3) := dk_180 0 7 (dk_at dksX5_log_0 20 rfl rfl)
theorem dX5_log_23 : decode cX5_log 23 = .ok (.bipush 78, 2) := dk_16 78 (dk_at dksX5_log_1 0 rfl rfl)
theorem dX5_log_25 : decode cX5_log 25 = .ok (.iload 5, 2) := dk_21 5 (dk_at dksX5_log_1 2 rfl rfl)
theorem dX5_log_27 : decode cX5_log 27 = .ok (.iadd, 1) := dk_96 (dk_at dksX5_log_1 4 rfl rfl)
theorem dX5_log_28 : decode cX5_log 28 = .ok (.iconst 5, 1) := dk_8 (dk_at dksX5_log_1 5 rfl rfl)
theorem dX5_log_29 : decode cX5_log 29 = .ok (.isub, 1) := dk_100 (dk_at dksX5_log_1 6 rfl rfl)
theorem dX5_log_30 : decode cX5_log 30 = .ok (.iaload, 1) := dk_46 (dk_at dksX5_log_1 7 rfl rfl)
theorem dX5_log_31 : decode cX5_log 31 = .ok (.iastore, 1) := dk_79 (dk_at dksX5_log_1 8 rfl rfl)
theorem dX5_log_32 : decode cX5_log 32 = .ok (.iinc 5 (-1), 3) := dk_132 5 255 (dk_at dksX5_log_1 9 rfl rfl)
theorem dX5_log_35 : decode cX5_log 35 = .ok (.goto (-31), 3) := dk_167 255 225 (dk_at dksX5_log_1 12 rfl rfl)
theorem dX5_log_38 : decode cX5_log 38 = .ok (.aload_n 0, 1) := dk_42 (dk_at dksX5_log_1 15 rfl rfl)
theorem dX5_log_39 : decode cX5_log 39 = .ok (.getfield 7, 3) := dk_180 0 7 (dk_at dksX5_log_1 16 rfl rfl)
theorem dX5_log_42 : decode cX5_log 42 = .ok (.bipush 78, 2) := dk_16 78 (dk_at dksX5_log_1 19 rfl rfl)
theorem dX5_log_44 : decode cX5_log 44 = .ok (.aload_n 0, 1) := dk_42 (dk_at dksX5_log_1 21 rfl rfl)
theorem dX5_log_45 : decode cX5_log 45 = .ok (.getfield 7, 3) := dk_180 0 7 (dk_at dksX5_log_2 0 rfl rfl)
theorem dX5_log_48 : decode cX5_log 48 = .ok (.bipush 55, 2) := dk_16 55 (dk_at dksX5_log_2 3 rfl rfl)
theorem dX5_log_50 : decode cX5_log 50 = .ok (.iaload, 1) := dk_46 (dk_at dksX5_log_2 5 rfl rfl)
theorem dX5_log_51 : decode cX5_log 51 = .ok (.iastore, 1) := dk_79 (dk_at dksX5_log_2 6 rfl rfl)
theorem dX5_log_52 : decode cX5_log 52 = .ok (.aload_n 0, 1) := dk_42 (dk_at dksX5_log_2 7 rfl rfl)
theorem dX5_log_53 : decode cX5_log 53 = .ok (.getfield 7, 3) := dk_180 0 7 (dk_at dksX5_log_2 8 rfl rfl)
theorem dX5_log_56 : decode cX5_log 56 = .ok (.bipush 79, 2) := dk_16 79 (dk_at dksX5_log_2 11 rfl rfl)
theorem dX5_log_58 : decode cX5_log 58 = .ok (.iload_n 1, 1) := dk_27 (dk_at dksX5_log_2 13 rfl rfl)
theorem dX5_log_59 : decode cX5_log 59 = .ok (.iastore, 1) := dk_79 (dk_at dksX5_log_2 14 rfl rfl)
theorem dX5_log_60 : decode cX5_log 60 = .ok (.aload_n 0, 1) := dk_42 (dk_at dksX5_log_2 15 rfl rfl)
theorem dX5_log_61 : decode cX5_log 61 = .ok (.getfield 7, 3) := dk_180 0 7 (dk_at dksX5_log_2 16 rfl rfl)
theorem dX5_log_64 : decode cX5_log 64 = .ok (.bipush 80, 2) := dk_16 80 (dk_at dksX5_log_2 19 rfl rfl)
theorem dX5_log_66 : decode cX5_log 66 = .ok (.iload_n 2, 1) := dk_28 (dk_at dksX5_log_2 21 rfl rfl)
theorem dX5_log_67 : decode cX5_log 67 = .ok (.iastore, 1) := dk_79 (dk_at dksX5_log_2 22 rfl rfl)
theorem dX5_log_68 : decode cX5_log 68 = .ok (.aload_n 0, 1) := dk_42 (dk_at dksX5_log_2 23 rfl rfl)
theorem dX5_log_69 : decode cX5_log 69 = .ok (.getfield 7, 3) := dk_180 0 7 (dk_at dksX5_log_3 0 rfl rfl)
theorem dX5_log_72 : decode cX5_log 72 = .ok (.bipush 81, 2) := dk_16 81 (dk_at dksX5_log_3 3 rfl rfl)
theorem dX5_log_74 : decode cX5_log 74 = .ok (.iload_n 3, 1) := dk_29 (dk_at dksX5_log_3 5 rfl rfl)
theorem dX5_log_75 : decode cX5_log 75 = .ok (.iastore, 1) := dk_79 (dk_at dksX5_log_3 6 rfl rfl)
theorem dX5_log_76 : decode cX5_log 76 = .ok (.aload_n 0, 1) := dk_42 (dk_at dksX5_log_3 7 rfl rfl)
theorem dX5_log_77 : decode cX5_log 77 = .ok (.getfield 7, 3) := dk_180 0 7 (dk_at dksX5_log_3 8 rfl rfl)
theorem dX5_log_80 : decode cX5_log 80 = .ok (.bipush 82, 2) := dk_16 82 (dk_at dksX5_log_3 11 rfl rfl)
theorem dX5_log_82 : decode cX5_log 82 = .ok (.iload 4, 2) := dk_21 4 (dk_at dksX5_log_3 13 rfl rfl)
theorem dX5_log_84 : decode cX5_log 84 = .ok (.iastore, 1) := dk_79 (dk_at dksX5_log_3 15 rfl rfl)
theorem dX5_log_85 : decode cX5_log 85 = .ok (.aload_n 0, 1) := dk_42 (dk_at dksX5_log_3 16 rfl rfl)
theorem dX5_log_86 : decode cX5_log 86 = .ok (.getfield 7, 3) := dk_180 0 7 (dk_at dksX5_log_3 17 rfl rfl)
theorem dX5_log_89 : decode cX5_log 89 = .ok (.bipush 77, 2) := dk_16 77 (dk_at dksX5_log_3 20 rfl rfl)
theorem dX5_log_91 : decode cX5_log 91 = .ok (.dup2, 1) := dk_92 (dk_at dksX5_log_3 22 rfl rfl)
theorem dX5_log_92 : decode cX5_log 92 = .ok (.iaload, 1) := dk_46 (dk_at dksX5_log_3 23 rfl rfl)
theorem dX5_log_93 : decode cX5_log 93 = .ok (.aload_n 0, 1) := dk_42 (dk_at dksX5_log_4 0 rfl rfl)
theorem dX5_log_94 : decode cX5_log 94 = .ok (.getfield 7, 3) := dk_180 0 7 (dk_at dksX5_log_4 1 rfl rfl)
theorem dX5_log_97 : decode cX5_log 97 = .ok (.bipush 77, 2) := dk_16 77 (dk_at dksX5_log_4 4 rfl rfl)
theorem dX5_log_99 : decode cX5_log 99 = .ok (.iaload, 1) := dk_46 (dk_at dksX5_log_4 6 rfl rfl)
theorem dX5_log_100 : decode cX5_log 100 = .ok (.bipush 6, 2) := dk_16 6 (dk_at dksX5_log_4 7 rfl rfl)
theorem dX5_log_102 : decode cX5_log 102 = .ok (.if_icmp .ge 7, 3) := dk_162 0 7 (dk_at dksX5_log_4 9 rfl rfl)
theorem dX5_log_105 : decode cX5_log 105 = .ok (.iconst 1, 1) := dk_4 (dk_at dksX5_log_4 12 rfl rfl)
theorem dX5_log_106 : decode cX5_log 106 = .ok (.goto 4, 3) := dk_167 0 4 (dk_at dksX5_log_4 13 rfl rfl)
theorem dX5_log_109 : decode cX5_log 109 = .ok (.iconst 0, 1) := dk_3 (dk_at dksX5_log_4 16 rfl rfl)
theorem dX5_log_110 : decode cX5_log 110 = .ok (.iadd, 1) := dk_96 (dk_at dksX5_log_4 17 rfl rfl)
theorem dX5_log_111 : decode cX5_log 111 = .ok (.iastore, 1) := dk_79 (dk_at dksX5_log_4 18 rfl rfl)
theorem dX5_log_112 : decode cX5_log 112 = .ok (.return_, 1) := dk_177 (dk_at dksX5_log_4 19 rfl rfl)
abbrev cX5_nextDay : ByteArray := prog_14_method_37_code
def yX5_nextDay : MethodName := ⟨RX5, "nextDay", "()I"⟩
def dkwX5_nextDay_1 : List UInt8 := [172]
abbrev dktX5_nextDay_1 : List UInt8 := dkwX5_nextDay_1 ++ []
def dkwX5_nextDay_0 : List UInt8 := [42, 180, 0, 7, 16, 55, 46, 17, 39, 15, 160, 0, 6, 18, 49, 172, 42, 182, 0, 83, 42, 182, 0, 119]
abbrev dktX5_nextDay_0 : List UInt8 := dkwX5_nextDay_0 ++ dktX5_nextDay_1
theorem dksX5_nextDay_0 : cX5_nextDay.data.toList.drop 0 = dktX5_nextDay_0 := by decide +kernel
theorem dksX5_nextDay_1 : cX5_nextDay.data.toList.drop 24 = dktX5_nextDay_1 := dk_seg dksX5_nextDay_0 24 rfl rfl
theorem dX5_nextDay_0 : decode cX5_nextDay 0 = .ok (.aload_n 0, 1) := dk_42 (dk_at dksX5_nextDay_0 0 rfl rfl)
theorem dX5_nextDay_1 : decode cX5_nextDay 1 = .ok (.getfield 7, 3) := dk_180 0 7 (dk_at dksX5_nextDay_0 1 rfl rfl)
theorem dX5_nextDay_4 : decode cX5_nextDay 4 = .ok (.bipush 55, 2) := dk_16 55 (dk_at dksX5_nextDay_0 4 rfl rfl)
theorem dX5_nextDay_6 : decode cX5_nextDay 6 = .ok (.iaload, 1) := dk_46 (dk_at dksX5_nextDay_0 6 rfl rfl)
theorem dX5_nextDay_7 : decode cX5_nextDay 7 = .ok (.sipush 9999, 3) := dk_17 39 15 (dk_at dksX5_nextDay_0 7 rfl rfl)
theorem dX5_nextDay_10 : decode cX5_nextDay 10 = .ok (.if_icmp .ne 6, 3) := dk_160 0 6 (dk_at dksX5_nextDay_0 10 rfl rfl)
theorem dX5_nextDay_13 : decode cX5_nextDay 13 = .ok (.ldc 49, 2) := dk_18 49 (dk_at dksX5_nextDay_0 13 rfl rfl)
theorem dX5_nextDay_15 : decode cX5_nextDay 15 = .ok (.ireturn, 1) := dk_172 (dk_at dksX5_nextDay_0 15 rfl rfl)
theorem dX5_nextDay_16 : decode cX5_nextDay 16 = .ok (.aload_n 0, 1) := dk_42 (dk_at dksX5_nextDay_0 16 rfl rfl)
theorem dX5_nextDay_17 : decode cX5_nextDay 17 = .ok (.invokevirtual 83, 3) := dk_182 0 83 (dk_at dksX5_nextDay_0 17 rfl rfl)
theorem dX5_nextDay_20 : decode cX5_nextDay 20 = .ok (.aload_n 0, 1) := dk_42 (dk_at dksX5_nextDay_0 20 rfl rfl)
theorem dX5_nextDay_21 : decode cX5_nextDay 21 = .ok (.invokevirtual 119, 3) := dk_182 0 119 (dk_at dksX5_nextDay_0 21 rfl rfl)
theorem dX5_nextDay_24 : decode cX5_nextDay 24 = .ok (.ireturn, 1) := dk_172 (dk_at dksX5_nextDay_1 0 rfl rfl)
abbrev cX5_begins : ByteArray := prog_14_method_28_code
def yX5_begins : MethodName := ⟨RX5, "begins", "()I"⟩
def dkwX5_begins_1 : List UInt8 := [27, 96, 3, 79, 132, 1, 1, 167, 255, 238, 42, 180, 0, 7, 16, 55, 46, 172]
abbrev dktX5_begins_1 : List UInt8 := dkwX5_begins_1 ++ []
def dkwX5_begins_0 : List UInt8 := [42, 180, 0, 7, 16, 55, 92, 46, 4, 96, 79, 3, 60, 27, 8, 162, 0, 19, 42, 180, 0, 7, 16, 57]
abbrev dktX5_begins_0 : List UInt8 := dkwX5_begins_0 ++ dktX5_begins_1
theorem dksX5_begins_0 : cX5_begins.data.toList.drop 0 = dktX5_begins_0 := by decide +kernel
theorem dksX5_begins_1 : cX5_begins.data.toList.drop 24 = dktX5_begins_1 := dk_seg dksX5_begins_0 24 rfl rfl
theorem dX5_begins_0 : decode cX5_begins 0 = .ok (.aload_n 0, 1) := dk_42 (dk_at dksX5_begins_0 0 rfl rfl)
theorem dX5_begins_1 : decode cX5_begins 1 = .ok (.getfield 7, 3) := dk_180 0 7 (dk_at dksX5_begins_0 1 rfl rfl)
theorem dX5_begins_4 : decode cX5_begins 4 = .ok (.bipush 55, 2) := dk_16 55 (dk_at dksX5_begins_0 4 rfl rfl)
theorem dX5_begins_6 : decode cX5_begins 6 = .ok (.dup2, 1) := dk_92 (dk_at dksX5_begins_0 6 rfl rfl)
theorem dX5_begins_7 : decode cX5_begins 7 = .ok (.iaload, 1) := dk_46 (dk_at dksX5_begins_0 7 rfl rfl)
theorem dX5_begins_8 : decode cX5_begins 8 = .ok (.iconst 1, 1) := dk_4 (dk_at dksX5_begins_0 8 rfl rfl)
theorem dX5_begins_9 : decode cX5_begins 9 = .ok (.iadd, 1) := dk_96 (dk_at dksX5_begins_0 9 rfl rfl)
theorem dX5_begins_10 : decode cX5_begins 10 = .ok (.iastore, 1) := dk_79 (dk_at dksX5_begins_0 10 rfl rfl)
theorem dX5_begins_11 : decode cX5_begins 11 = .ok (.iconst 0, 1) := dk_3 (dk_at dksX5_begins_0 11 rfl rfl)
theorem dX5_begins_12 : decode cX5_begins 12 = .ok (.istore_n 1, 1) := dk_60 (dk_at dksX5_begins_0 12 rfl rfl)
theorem dX5_begins_13 : decode cX5_begins 13 = .ok (.iload_n 1, 1) := dk_27 (dk_at dksX5_begins_0 13 rfl rfl)
theorem dX5_begins_14 : decode cX5_begins 14 = .ok (.iconst 5, 1) := dk_8 (dk_at dksX5_begins_0 14 rfl rfl)
theorem dX5_begins_15 : decode cX5_begins 15 = .ok (.if_icmp .ge 19, 3) := dk_162 0 19 (dk_at dksX5_begins_0 15 rfl rfl)
theorem dX5_begins_18 : decode cX5_begins 18 = .ok (.aload_n 0, 1) := dk_42 (dk_at dksX5_begins_0 18 rfl rfl)
theorem dX5_begins_19 : decode cX5_begins 19 = .ok (.getfield 7, 3) := dk_180 0 7 (dk_at dksX5_begins_0 19 rfl rfl)
theorem dX5_begins_22 : decode cX5_begins 22 = .ok (.bipush 57, 2) := dk_16 57 (dk_at dksX5_begins_0 22 rfl rfl)
theorem dX5_begins_24 : decode cX5_begins 24 = .ok (.iload_n 1, 1) := dk_27 (dk_at dksX5_begins_1 0 rfl rfl)
theorem dX5_begins_25 : decode cX5_begins 25 = .ok (.iadd, 1) := dk_96 (dk_at dksX5_begins_1 1 rfl rfl)
theorem dX5_begins_26 : decode cX5_begins 26 = .ok (.iconst 0, 1) := dk_3 (dk_at dksX5_begins_1 2 rfl rfl)
theorem dX5_begins_27 : decode cX5_begins 27 = .ok (.iastore, 1) := dk_79 (dk_at dksX5_begins_1 3 rfl rfl)
theorem dX5_begins_28 : decode cX5_begins 28 = .ok (.iinc 1 1, 3) := dk_132 1 1 (dk_at dksX5_begins_1 4 rfl rfl)
theorem dX5_begins_31 : decode cX5_begins 31 = .ok (.goto (-18), 3) := dk_167 255 238 (dk_at dksX5_begins_1 7 rfl rfl)
theorem dX5_begins_34 : decode cX5_begins 34 = .ok (.aload_n 0, 1) := dk_42 (dk_at dksX5_begins_1 10 rfl rfl)
theorem dX5_begins_35 : decode cX5_begins 35 = .ok (.getfield 7, 3) := dk_180 0 7 (dk_at dksX5_begins_1 11 rfl rfl)
theorem dX5_begins_38 : decode cX5_begins 38 = .ok (.bipush 55, 2) := dk_16 55 (dk_at dksX5_begins_1 14 rfl rfl)
theorem dX5_begins_40 : decode cX5_begins 40 = .ok (.iaload, 1) := dk_46 (dk_at dksX5_begins_1 16 rfl rfl)
theorem dX5_begins_41 : decode cX5_begins 41 = .ok (.ireturn, 1) := dk_172 (dk_at dksX5_begins_1 17 rfl rfl)
abbrev cX5_type : ByteArray := prog_14_method_38_code
def yX5_type : MethodName := ⟨RX5, "type", "(C)I"⟩
def dkwX5_type_1 : List UInt8 := [180, 0, 122, 4, 96, 181, 0, 122, 42, 180, 0, 122, 172]
abbrev dktX5_type_1 : List UInt8 := dkwX5_type_1 ++ []
def dkwX5_type_0 : List UInt8 := [42, 180, 0, 122, 16, 80, 160, 0, 6, 18, 49, 172, 42, 180, 0, 22, 42, 180, 0, 122, 27, 79, 42, 89]
abbrev dktX5_type_0 : List UInt8 := dkwX5_type_0 ++ dktX5_type_1
theorem dksX5_type_0 : cX5_type.data.toList.drop 0 = dktX5_type_0 := by decide +kernel
theorem dksX5_type_1 : cX5_type.data.toList.drop 24 = dktX5_type_1 := dk_seg dksX5_type_0 24 rfl rfl
theorem dX5_type_0 : decode cX5_type 0 = .ok (.aload_n 0, 1) := dk_42 (dk_at dksX5_type_0 0 rfl rfl)
theorem dX5_type_1 : decode cX5_type 1 = .ok (.getfield 122, 3) := dk_180 0 122 (dk_at dksX5_type_0 1 rfl rfl)
theorem dX5_type_4 : decode cX5_type 4 = .ok (.bipush 80, 2) := dk_16 80 (dk_at dksX5_type_0 4 rfl rfl)
theorem dX5_type_6 : decode cX5_type 6 = .ok (.if_icmp .ne 6, 3) := dk_160 0 6 (dk_at dksX5_type_0 6 rfl rfl)
theorem dX5_type_9 : decode cX5_type 9 = .ok (.ldc 49, 2) := dk_18 49 (dk_at dksX5_type_0 9 rfl rfl)
theorem dX5_type_11 : decode cX5_type 11 = .ok (.ireturn, 1) := dk_172 (dk_at dksX5_type_0 11 rfl rfl)
theorem dX5_type_12 : decode cX5_type 12 = .ok (.aload_n 0, 1) := dk_42 (dk_at dksX5_type_0 12 rfl rfl)
theorem dX5_type_13 : decode cX5_type 13 = .ok (.getfield 22, 3) := dk_180 0 22 (dk_at dksX5_type_0 13 rfl rfl)
theorem dX5_type_16 : decode cX5_type 16 = .ok (.aload_n 0, 1) := dk_42 (dk_at dksX5_type_0 16 rfl rfl)
theorem dX5_type_17 : decode cX5_type 17 = .ok (.getfield 122, 3) := dk_180 0 122 (dk_at dksX5_type_0 17 rfl rfl)
theorem dX5_type_20 : decode cX5_type 20 = .ok (.iload_n 1, 1) := dk_27 (dk_at dksX5_type_0 20 rfl rfl)
theorem dX5_type_21 : decode cX5_type 21 = .ok (.iastore, 1) := dk_79 (dk_at dksX5_type_0 21 rfl rfl)
theorem dX5_type_22 : decode cX5_type 22 = .ok (.aload_n 0, 1) := dk_42 (dk_at dksX5_type_0 22 rfl rfl)
theorem dX5_type_23 : decode cX5_type 23 = .ok (.dup, 1) := dk_89 (dk_at dksX5_type_0 23 rfl rfl)
theorem dX5_type_24 : decode cX5_type 24 = .ok (.getfield 122, 3) := dk_180 0 122 (dk_at dksX5_type_1 0 rfl rfl)
theorem dX5_type_27 : decode cX5_type 27 = .ok (.iconst 1, 1) := dk_4 (dk_at dksX5_type_1 3 rfl rfl)
theorem dX5_type_28 : decode cX5_type 28 = .ok (.iadd, 1) := dk_96 (dk_at dksX5_type_1 4 rfl rfl)
theorem dX5_type_29 : decode cX5_type 29 = .ok (.putfield 122, 3) := dk_181 0 122 (dk_at dksX5_type_1 5 rfl rfl)
theorem dX5_type_32 : decode cX5_type 32 = .ok (.aload_n 0, 1) := dk_42 (dk_at dksX5_type_1 8 rfl rfl)
theorem dX5_type_33 : decode cX5_type 33 = .ok (.getfield 122, 3) := dk_180 0 122 (dk_at dksX5_type_1 9 rfl rfl)
theorem dX5_type_36 : decode cX5_type 36 = .ok (.ireturn, 1) := dk_172 (dk_at dksX5_type_1 12 rfl rfl)
abbrev cX5_clearText : ByteArray := prog_14_method_39_code
def yX5_clearText : MethodName := ⟨RX5, "clearText", "()I"⟩
def dkwX5_clearText_0 : List UInt8 := [42, 180, 0, 122, 60, 42, 3, 181, 0, 122, 27, 172]
abbrev dktX5_clearText_0 : List UInt8 := dkwX5_clearText_0 ++ []
theorem dksX5_clearText_0 : cX5_clearText.data.toList.drop 0 = dktX5_clearText_0 := by decide +kernel
theorem dX5_clearText_0 : decode cX5_clearText 0 = .ok (.aload_n 0, 1) := dk_42 (dk_at dksX5_clearText_0 0 rfl rfl)
theorem dX5_clearText_1 : decode cX5_clearText 1 = .ok (.getfield 122, 3) := dk_180 0 122 (dk_at dksX5_clearText_0 1 rfl rfl)
theorem dX5_clearText_4 : decode cX5_clearText 4 = .ok (.istore_n 1, 1) := dk_60 (dk_at dksX5_clearText_0 4 rfl rfl)
theorem dX5_clearText_5 : decode cX5_clearText 5 = .ok (.aload_n 0, 1) := dk_42 (dk_at dksX5_clearText_0 5 rfl rfl)
theorem dX5_clearText_6 : decode cX5_clearText 6 = .ok (.iconst 0, 1) := dk_3 (dk_at dksX5_clearText_0 6 rfl rfl)
theorem dX5_clearText_7 : decode cX5_clearText 7 = .ok (.putfield 122, 3) := dk_181 0 122 (dk_at dksX5_clearText_0 7 rfl rfl)
theorem dX5_clearText_10 : decode cX5_clearText 10 = .ok (.iload_n 1, 1) := dk_27 (dk_at dksX5_clearText_0 10 rfl rfl)
theorem dX5_clearText_11 : decode cX5_clearText 11 = .ok (.ireturn, 1) := dk_172 (dk_at dksX5_clearText_0 11 rfl rfl)
abbrev cX5_perform : ByteArray := prog_14_method_46_code
def yX5_perform : MethodName := ⟨RX5, "perform", "()I"⟩
def dkwX5_perform_2 : List UInt8 := [181, 0, 26, 42, 42, 180, 0, 150, 181, 0, 30, 18, 44, 172, 42, 182, 0, 83, 42, 4, 182, 0, 159, 172]
abbrev dktX5_perform_2 : List UInt8 := dkwX5_perform_2 ++ []
def dkwX5_perform_1 : List UInt8 := [182, 0, 164, 42, 4, 182, 0, 159, 60, 42, 182, 0, 167, 42, 180, 0, 150, 156, 0, 19, 42, 27]
abbrev dktX5_perform_1 : List UInt8 := dkwX5_perform_1 ++ dktX5_perform_2
def dkwX5_perform_0 : List UInt8 := [42, 3, 182, 0, 159, 60, 42, 180, 0, 128, 153, 0, 11, 18, 163, 42, 180, 0, 125, 100, 172, 42]
abbrev dktX5_perform_0 : List UInt8 := dkwX5_perform_0 ++ dktX5_perform_1
theorem dksX5_perform_0 : cX5_perform.data.toList.drop 0 = dktX5_perform_0 := by decide +kernel
theorem dksX5_perform_1 : cX5_perform.data.toList.drop 22 = dktX5_perform_1 := dk_seg dksX5_perform_0 22 rfl rfl
theorem dksX5_perform_2 : cX5_perform.data.toList.drop 44 = dktX5_perform_2 := dk_seg dksX5_perform_1 22 rfl rfl
theorem dX5_perform_0 : decode cX5_perform 0 = .ok (.aload_n 0, 1) := dk_42 (dk_at dksX5_perform_0 0 rfl rfl)
theorem dX5_perform_1 : decode cX5_perform 1 = .ok (.iconst 0, 1) := dk_3 (dk_at dksX5_perform_0 1 rfl rfl)
theorem dX5_perform_2 : decode cX5_perform 2 = .ok (.invokevirtual 159, 3) := dk_182 0 159 (dk_at dksX5_perform_0 2 rfl rfl)
theorem dX5_perform_5 : decode cX5_perform 5 = .ok (.istore_n 1, 1) := dk_60 (dk_at dksX5_perform_0 5 rfl rfl)
theorem dX5_perform_6 : decode cX5_perform 6 = .ok (.aload_n 0, 1) := dk_42 (dk_at dksX5_perform_0 6 rfl rfl)
theorem dX5_perform_7 : decode cX5_perform 7 = .ok (.getfield 128, 3) := dk_180 0 128 (dk_at dksX5_perform_0 7 rfl rfl)
theorem dX5_perform_10 : decode cX5_perform 10 = .ok (.ifCond .eq 11, 3) := dk_153 0 11 (dk_at dksX5_perform_0 10 rfl rfl)
theorem dX5_perform_13 : decode cX5_perform 13 = .ok (.ldc 163, 2) := dk_18 163 (dk_at dksX5_perform_0 13 rfl rfl)
theorem dX5_perform_15 : decode cX5_perform 15 = .ok (.aload_n 0, 1) := dk_42 (dk_at dksX5_perform_0 15 rfl rfl)
theorem dX5_perform_16 : decode cX5_perform 16 = .ok (.getfield 125, 3) := dk_180 0 125 (dk_at dksX5_perform_0 16 rfl rfl)
theorem dX5_perform_19 : decode cX5_perform 19 = .ok (.isub, 1) := dk_100 (dk_at dksX5_perform_0 19 rfl rfl)
theorem dX5_perform_20 : decode cX5_perform 20 = .ok (.ireturn, 1) := dk_172 (dk_at dksX5_perform_0 20 rfl rfl)
theorem dX5_perform_21 : decode cX5_perform 21 = .ok (.aload_n 0, 1) := dk_42 (dk_at dksX5_perform_0 21 rfl rfl)
theorem dX5_perform_22 : decode cX5_perform 22 = .ok (.invokevirtual 164, 3) := dk_182 0 164 (dk_at dksX5_perform_1 0 rfl rfl)
theorem dX5_perform_25 : decode cX5_perform 25 = .ok (.aload_n 0, 1) := dk_42 (dk_at dksX5_perform_1 3 rfl rfl)
theorem dX5_perform_26 : decode cX5_perform 26 = .ok (.iconst 1, 1) := dk_4 (dk_at dksX5_perform_1 4 rfl rfl)
theorem dX5_perform_27 : decode cX5_perform 27 = .ok (.invokevirtual 159, 3) := dk_182 0 159 (dk_at dksX5_perform_1 5 rfl rfl)
theorem dX5_perform_30 : decode cX5_perform 30 = .ok (.istore_n 1, 1) := dk_60 (dk_at dksX5_perform_1 8 rfl rfl)
theorem dX5_perform_31 : decode cX5_perform 31 = .ok (.aload_n 0, 1) := dk_42 (dk_at dksX5_perform_1 9 rfl rfl)
theorem dX5_perform_32 : decode cX5_perform 32 = .ok (.invokevirtual 167, 3) := dk_182 0 167 (dk_at dksX5_perform_1 10 rfl rfl)
theorem dX5_perform_35 : decode cX5_perform 35 = .ok (.aload_n 0, 1) := dk_42 (dk_at dksX5_perform_1 13 rfl rfl)
theorem dX5_perform_36 : decode cX5_perform 36 = .ok (.getfield 150, 3) := dk_180 0 150 (dk_at dksX5_perform_1 14 rfl rfl)
theorem dX5_perform_39 : decode cX5_perform 39 = .ok (.ifCond .ge 19, 3) := dk_156 0 19 (dk_at dksX5_perform_1 17 rfl rfl)
theorem dX5_perform_42 : decode cX5_perform 42 = .ok (.aload_n 0, 1) := dk_42 (dk_at dksX5_perform_1 20 rfl rfl)
theorem dX5_perform_43 : decode cX5_perform 43 = .ok (.iload_n 1, 1) := dk_27 (dk_at dksX5_perform_1 21 rfl rfl)
theorem dX5_perform_44 : decode cX5_perform 44 = .ok (.putfield 26, 3) := dk_181 0 26 (dk_at dksX5_perform_2 0 rfl rfl)
theorem dX5_perform_47 : decode cX5_perform 47 = .ok (.aload_n 0, 1) := dk_42 (dk_at dksX5_perform_2 3 rfl rfl)
theorem dX5_perform_48 : decode cX5_perform 48 = .ok (.aload_n 0, 1) := dk_42 (dk_at dksX5_perform_2 4 rfl rfl)
theorem dX5_perform_49 : decode cX5_perform 49 = .ok (.getfield 150, 3) := dk_180 0 150 (dk_at dksX5_perform_2 5 rfl rfl)
theorem dX5_perform_52 : decode cX5_perform 52 = .ok (.putfield 30, 3) := dk_181 0 30 (dk_at dksX5_perform_2 8 rfl rfl)
theorem dX5_perform_55 : decode cX5_perform 55 = .ok (.ldc 44, 2) := dk_18 44 (dk_at dksX5_perform_2 11 rfl rfl)
theorem dX5_perform_57 : decode cX5_perform 57 = .ok (.ireturn, 1) := dk_172 (dk_at dksX5_perform_2 13 rfl rfl)
theorem dX5_perform_58 : decode cX5_perform 58 = .ok (.aload_n 0, 1) := dk_42 (dk_at dksX5_perform_2 14 rfl rfl)
theorem dX5_perform_59 : decode cX5_perform 59 = .ok (.invokevirtual 83, 3) := dk_182 0 83 (dk_at dksX5_perform_2 15 rfl rfl)
theorem dX5_perform_62 : decode cX5_perform 62 = .ok (.aload_n 0, 1) := dk_42 (dk_at dksX5_perform_2 18 rfl rfl)
theorem dX5_perform_63 : decode cX5_perform 63 = .ok (.iconst 1, 1) := dk_4 (dk_at dksX5_perform_2 19 rfl rfl)
theorem dX5_perform_64 : decode cX5_perform 64 = .ok (.invokevirtual 159, 3) := dk_182 0 159 (dk_at dksX5_perform_2 20 rfl rfl)
theorem dX5_perform_67 : decode cX5_perform 67 = .ok (.ireturn, 1) := dk_172 (dk_at dksX5_perform_2 23 rfl rfl)
abbrev cX5_go : ByteArray := prog_14_method_45_code
def yX5_go : MethodName := ⟨RX5, "go", "(Z)I"⟩
def dkwX5_go_5 : List UInt8 := [172]
abbrev dktX5_go_5 : List UInt8 := dkwX5_go_5 ++ []
def dkwX5_go_4 : List UInt8 := [16, 44, 182, 0, 132, 54, 4, 42, 180, 0, 128, 154, 0, 7, 4, 167, 0, 4, 3, 62, 167, 255, 159, 28]
abbrev dktX5_go_4 : List UInt8 := dkwX5_go_4 ++ dktX5_go_5
def dkwX5_go_3 : List UInt8 := [42, 180, 0, 125, 42, 180, 0, 122, 162, 0, 7, 4, 167, 0, 4, 3, 62, 29, 153, 255, 185, 42, 16, 44]
abbrev dktX5_go_3 : List UInt8 := dkwX5_go_3 ++ dktX5_go_4
def dkwX5_go_2 : List UInt8 := [154, 0, 7, 4, 167, 0, 4, 3, 96, 61, 42, 180, 0, 128, 154, 0, 25, 42, 180, 0, 150, 154, 0, 18]
abbrev dktX5_go_2 : List UInt8 := dkwX5_go_2 ++ dktX5_go_3
def dkwX5_go_1 : List UInt8 := [182, 0, 153, 42, 27, 153, 0, 10, 42, 182, 0, 156, 167, 0, 4, 3, 181, 0, 150, 28, 42, 180, 0, 150]
abbrev dktX5_go_1 : List UInt8 := dkwX5_go_1 ++ dktX5_go_2
def dkwX5_go_0 : List UInt8 := [42, 3, 181, 0, 125, 42, 3, 181, 0, 128, 42, 3, 181, 0, 150, 3, 61, 4, 62, 29, 153, 0, 99, 42]
abbrev dktX5_go_0 : List UInt8 := dkwX5_go_0 ++ dktX5_go_1
theorem dksX5_go_0 : cX5_go.data.toList.drop 0 = dktX5_go_0 := by decide +kernel
theorem dksX5_go_1 : cX5_go.data.toList.drop 24 = dktX5_go_1 := dk_seg dksX5_go_0 24 rfl rfl
theorem dksX5_go_2 : cX5_go.data.toList.drop 48 = dktX5_go_2 := dk_seg dksX5_go_1 24 rfl rfl
theorem dksX5_go_3 : cX5_go.data.toList.drop 72 = dktX5_go_3 := dk_seg dksX5_go_2 24 rfl rfl
theorem dksX5_go_4 : cX5_go.data.toList.drop 96 = dktX5_go_4 := dk_seg dksX5_go_3 24 rfl rfl
theorem dksX5_go_5 : cX5_go.data.toList.drop 120 = dktX5_go_5 := dk_seg dksX5_go_4 24 rfl rfl
theorem dX5_go_0 : decode cX5_go 0 = .ok (.aload_n 0, 1) := dk_42 (dk_at dksX5_go_0 0 rfl rfl)
theorem dX5_go_1 : decode cX5_go 1 = .ok (.iconst 0, 1) := dk_3 (dk_at dksX5_go_0 1 rfl rfl)
theorem dX5_go_2 : decode cX5_go 2 = .ok (.putfield 125, 3) := dk_181 0 125 (dk_at dksX5_go_0 2 rfl rfl)
theorem dX5_go_5 : decode cX5_go 5 = .ok (.aload_n 0, 1) := dk_42 (dk_at dksX5_go_0 5 rfl rfl)
theorem dX5_go_6 : decode cX5_go 6 = .ok (.iconst 0, 1) := dk_3 (dk_at dksX5_go_0 6 rfl rfl)
theorem dX5_go_7 : decode cX5_go 7 = .ok (.putfield 128, 3) := dk_181 0 128 (dk_at dksX5_go_0 7 rfl rfl)
theorem dX5_go_10 : decode cX5_go 10 = .ok (.aload_n 0, 1) := dk_42 (dk_at dksX5_go_0 10 rfl rfl)
theorem dX5_go_11 : decode cX5_go 11 = .ok (.iconst 0, 1) := dk_3 (dk_at dksX5_go_0 11 rfl rfl)
theorem dX5_go_12 : decode cX5_go 12 = .ok (.putfield 150, 3) := dk_181 0 150 (dk_at dksX5_go_0 12 rfl rfl)
theorem dX5_go_15 : decode cX5_go 15 = .ok (.iconst 0, 1) := dk_3 (dk_at dksX5_go_0 15 rfl rfl)
theorem dX5_go_16 : decode cX5_go 16 = .ok (.istore_n 2, 1) := dk_61 (dk_at dksX5_go_0 16 rfl rfl)
theorem dX5_go_17 : decode cX5_go 17 = .ok (.iconst 1, 1) := dk_4 (dk_at dksX5_go_0 17 rfl rfl)
theorem dX5_go_18 : decode cX5_go 18 = .ok (.istore_n 3, 1) := dk_62 (dk_at dksX5_go_0 18 rfl rfl)
theorem dX5_go_19 : decode cX5_go 19 = .ok (.iload_n 3, 1) := dk_29 (dk_at dksX5_go_0 19 rfl rfl)
theorem dX5_go_20 : decode cX5_go 20 = .ok (.ifCond .eq 99, 3) := dk_153 0 99 (dk_at dksX5_go_0 20 rfl rfl)
theorem dX5_go_23 : decode cX5_go 23 = .ok (.aload_n 0, 1) := dk_42 (dk_at dksX5_go_0 23 rfl rfl)
theorem dX5_go_24 : decode cX5_go 24 = .ok (.invokevirtual 153, 3) := dk_182 0 153 (dk_at dksX5_go_1 0 rfl rfl)
theorem dX5_go_27 : decode cX5_go 27 = .ok (.aload_n 0, 1) := dk_42 (dk_at dksX5_go_1 3 rfl rfl)
theorem dX5_go_28 : decode cX5_go 28 = .ok (.iload_n 1, 1) := dk_27 (dk_at dksX5_go_1 4 rfl rfl)
theorem dX5_go_29 : decode cX5_go 29 = .ok (.ifCond .eq 10, 3) := dk_153 0 10 (dk_at dksX5_go_1 5 rfl rfl)
theorem dX5_go_32 : decode cX5_go 32 = .ok (.aload_n 0, 1) := dk_42 (dk_at dksX5_go_1 8 rfl rfl)
theorem dX5_go_33 : decode cX5_go 33 = .ok (.invokevirtual 156, 3) := dk_182 0 156 (dk_at dksX5_go_1 9 rfl rfl)
theorem dX5_go_36 : decode cX5_go 36 = .ok (.goto 4, 3) := dk_167 0 4 (dk_at dksX5_go_1 12 rfl rfl)
theorem dX5_go_39 : decode cX5_go 39 = .ok (.iconst 0, 1) := dk_3 (dk_at dksX5_go_1 15 rfl rfl)
theorem dX5_go_40 : decode cX5_go 40 = .ok (.putfield 150, 3) := dk_181 0 150 (dk_at dksX5_go_1 16 rfl rfl)
theorem dX5_go_43 : decode cX5_go 43 = .ok (.iload_n 2, 1) := dk_28 (dk_at dksX5_go_1 19 rfl rfl)
theorem dX5_go_44 : decode cX5_go 44 = .ok (.aload_n 0, 1) := dk_42 (dk_at dksX5_go_1 20 rfl rfl)
theorem dX5_go_45 : decode cX5_go 45 = .ok (.getfield 150, 3) := dk_180 0 150 (dk_at dksX5_go_1 21 rfl rfl)
theorem dX5_go_48 : decode cX5_go 48 = .ok (.ifCond .ne 7, 3) := dk_154 0 7 (dk_at dksX5_go_2 0 rfl rfl)
theorem dX5_go_51 : decode cX5_go 51 = .ok (.iconst 1, 1) := dk_4 (dk_at dksX5_go_2 3 rfl rfl)
theorem dX5_go_52 : decode cX5_go 52 = .ok (.goto 4, 3) := dk_167 0 4 (dk_at dksX5_go_2 4 rfl rfl)
theorem dX5_go_55 : decode cX5_go 55 = .ok (.iconst 0, 1) := dk_3 (dk_at dksX5_go_2 7 rfl rfl)
theorem dX5_go_56 : decode cX5_go 56 = .ok (.iadd, 1) := dk_96 (dk_at dksX5_go_2 8 rfl rfl)
theorem dX5_go_57 : decode cX5_go 57 = .ok (.istore_n 2, 1) := dk_61 (dk_at dksX5_go_2 9 rfl rfl)
theorem dX5_go_58 : decode cX5_go 58 = .ok (.aload_n 0, 1) := dk_42 (dk_at dksX5_go_2 10 rfl rfl)
theorem dX5_go_59 : decode cX5_go 59 = .ok (.getfield 128, 3) := dk_180 0 128 (dk_at dksX5_go_2 11 rfl rfl)
theorem dX5_go_62 : decode cX5_go 62 = .ok (.ifCond .ne 25, 3) := dk_154 0 25 (dk_at dksX5_go_2 14 rfl rfl)
theorem dX5_go_65 : decode cX5_go 65 = .ok (.aload_n 0, 1) := dk_42 (dk_at dksX5_go_2 17 rfl rfl)
theorem dX5_go_66 : decode cX5_go 66 = .ok (.getfield 150, 3) := dk_180 0 150 (dk_at dksX5_go_2 18 rfl rfl)
theorem dX5_go_69 : decode cX5_go 69 = .ok (.ifCond .ne 18, 3) := dk_154 0 18 (dk_at dksX5_go_2 21 rfl rfl)
theorem dX5_go_72 : decode cX5_go 72 = .ok (.aload_n 0, 1) := dk_42 (dk_at dksX5_go_3 0 rfl rfl)
theorem dX5_go_73 : decode cX5_go 73 = .ok (.getfield 125, 3) := dk_180 0 125 (dk_at dksX5_go_3 1 rfl rfl)
theorem dX5_go_76 : decode cX5_go 76 = .ok (.aload_n 0, 1) := dk_42 (dk_at dksX5_go_3 4 rfl rfl)
theorem dX5_go_77 : decode cX5_go 77 = .ok (.getfield 122, 3) := dk_180 0 122 (dk_at dksX5_go_3 5 rfl rfl)
theorem dX5_go_80 : decode cX5_go 80 = .ok (.if_icmp .ge 7, 3) := dk_162 0 7 (dk_at dksX5_go_3 8 rfl rfl)
theorem dX5_go_83 : decode cX5_go 83 = .ok (.iconst 1, 1) := dk_4 (dk_at dksX5_go_3 11 rfl rfl)
theorem dX5_go_84 : decode cX5_go 84 = .ok (.goto 4, 3) := dk_167 0 4 (dk_at dksX5_go_3 12 rfl rfl)
theorem dX5_go_87 : decode cX5_go 87 = .ok (.iconst 0, 1) := dk_3 (dk_at dksX5_go_3 15 rfl rfl)
theorem dX5_go_88 : decode cX5_go 88 = .ok (.istore_n 3, 1) := dk_62 (dk_at dksX5_go_3 16 rfl rfl)
theorem dX5_go_89 : decode cX5_go 89 = .ok (.iload_n 3, 1) := dk_29 (dk_at dksX5_go_3 17 rfl rfl)
theorem dX5_go_90 : decode cX5_go 90 = .ok (.ifCond .eq (-71), 3) := dk_153 255 185 (dk_at dksX5_go_3 18 rfl rfl)
theorem dX5_go_93 : decode cX5_go 93 = .ok (.aload_n 0, 1) := dk_42 (dk_at dksX5_go_3 21 rfl rfl)
theorem dX5_go_94 : decode cX5_go 94 = .ok (.bipush 44, 2) := dk_16 44 (dk_at dksX5_go_3 22 rfl rfl)
theorem dX5_go_96 : decode cX5_go 96 = .ok (.bipush 44, 2) := dk_16 44 (dk_at dksX5_go_4 0 rfl rfl)
theorem dX5_go_98 : decode cX5_go 98 = .ok (.invokevirtual 132, 3) := dk_182 0 132 (dk_at dksX5_go_4 2 rfl rfl)
theorem dX5_go_101 : decode cX5_go 101 = .ok (.istore 4, 2) := dk_54 4 (dk_at dksX5_go_4 5 rfl rfl)
theorem dX5_go_103 : decode cX5_go 103 = .ok (.aload_n 0, 1) := dk_42 (dk_at dksX5_go_4 7 rfl rfl)
theorem dX5_go_104 : decode cX5_go 104 = .ok (.getfield 128, 3) := dk_180 0 128 (dk_at dksX5_go_4 8 rfl rfl)
theorem dX5_go_107 : decode cX5_go 107 = .ok (.ifCond .ne 7, 3) := dk_154 0 7 (dk_at dksX5_go_4 11 rfl rfl)
theorem dX5_go_110 : decode cX5_go 110 = .ok (.iconst 1, 1) := dk_4 (dk_at dksX5_go_4 14 rfl rfl)
theorem dX5_go_111 : decode cX5_go 111 = .ok (.goto 4, 3) := dk_167 0 4 (dk_at dksX5_go_4 15 rfl rfl)
theorem dX5_go_114 : decode cX5_go 114 = .ok (.iconst 0, 1) := dk_3 (dk_at dksX5_go_4 18 rfl rfl)
theorem dX5_go_115 : decode cX5_go 115 = .ok (.istore_n 3, 1) := dk_62 (dk_at dksX5_go_4 19 rfl rfl)
theorem dX5_go_116 : decode cX5_go 116 = .ok (.goto (-97), 3) := dk_167 255 159 (dk_at dksX5_go_4 20 rfl rfl)
theorem dX5_go_119 : decode cX5_go 119 = .ok (.iload_n 2, 1) := dk_28 (dk_at dksX5_go_4 23 rfl rfl)
theorem dX5_go_120 : decode cX5_go 120 = .ok (.ireturn, 1) := dk_172 (dk_at dksX5_go_5 0 rfl rfl)
abbrev cX5_read : ByteArray := prog_14_method_42_code
def yX5_read : MethodName := ⟨RX5, "read", "()V"⟩
def dkwX5_read_8 : List UInt8 := [16, 102, 160, 0, 10, 42, 182, 0, 141, 167, 0, 4, 3, 181, 0, 144, 177]
abbrev dktX5_read_8 : List UInt8 := dkwX5_read_8 ++ []
def dkwX5_read_7 : List UInt8 := [181, 0, 138, 27, 16, 102, 160, 0, 14, 42, 16, 58, 16, 58, 182, 0, 132, 167, 0, 4, 3, 61, 42, 27]
abbrev dktX5_read_7 : List UInt8 := dkwX5_read_7 ++ dktX5_read_8
def dkwX5_read_6 : List UInt8 := [159, 0, 9, 27, 16, 45, 160, 0, 8, 16, 57, 167, 0, 5, 16, 49, 182, 0, 132, 16, 48, 100]
abbrev dktX5_read_6 : List UInt8 := dkwX5_read_6 ++ dktX5_read_7
def dkwX5_read_5 : List UInt8 := [160, 0, 7, 3, 167, 0, 42, 42, 16, 48, 27, 16, 118, 160, 0, 8, 16, 52, 167, 0, 22, 27, 16, 43]
abbrev dktX5_read_5 : List UInt8 := dkwX5_read_5 ++ dktX5_read_6
def dkwX5_read_4 : List UInt8 := [167, 0, 4, 4, 96, 181, 0, 125, 42, 27, 181, 0, 135, 42, 27, 16, 115, 159, 0, 9, 27, 16, 100]
abbrev dktX5_read_4 : List UInt8 := dkwX5_read_4 ++ dktX5_read_5
def dkwX5_read_3 : List UInt8 := [159, 0, 7, 4, 167, 0, 4, 3, 181, 0, 128, 42, 89, 180, 0, 125, 42, 180, 0, 128, 153, 0, 7, 3]
abbrev dktX5_read_3 : List UInt8 := dkwX5_read_3 ++ dktX5_read_4
def dkwX5_read_2 : List UInt8 := [159, 0, 31, 27, 16, 103, 159, 0, 25, 27, 16, 102, 159, 0, 19, 27, 16, 115, 159, 0, 13, 27, 16, 100]
abbrev dktX5_read_2 : List UInt8 := dkwX5_read_2 ++ dktX5_read_3
def dkwX5_read_1 : List UInt8 := [60, 42, 42, 180, 0, 128, 154, 0, 45, 27, 16, 118, 159, 0, 43, 27, 16, 43, 159, 0, 37, 27, 16, 45]
abbrev dktX5_read_1 : List UInt8 := dkwX5_read_1 ++ dktX5_read_2
def dkwX5_read_0 : List UInt8 := [42, 180, 0, 125, 42, 180, 0, 122, 162, 0, 15, 42, 180, 0, 22, 42, 180, 0, 125, 46, 167, 0, 4, 3]
abbrev dktX5_read_0 : List UInt8 := dkwX5_read_0 ++ dktX5_read_1
theorem dksX5_read_0 : cX5_read.data.toList.drop 0 = dktX5_read_0 := by decide +kernel
theorem dksX5_read_1 : cX5_read.data.toList.drop 24 = dktX5_read_1 := dk_seg dksX5_read_0 24 rfl rfl
theorem dksX5_read_2 : cX5_read.data.toList.drop 48 = dktX5_read_2 := dk_seg dksX5_read_1 24 rfl rfl
theorem dksX5_read_3 : cX5_read.data.toList.drop 72 = dktX5_read_3 := dk_seg dksX5_read_2 24 rfl rfl
theorem dksX5_read_4 : cX5_read.data.toList.drop 96 = dktX5_read_4 := dk_seg dksX5_read_3 24 rfl rfl
theorem dksX5_read_5 : cX5_read.data.toList.drop 119 = dktX5_read_5 := dk_seg dksX5_read_4 23 rfl rfl
theorem dksX5_read_6 : cX5_read.data.toList.drop 143 = dktX5_read_6 := dk_seg dksX5_read_5 24 rfl rfl
theorem dksX5_read_7 : cX5_read.data.toList.drop 165 = dktX5_read_7 := dk_seg dksX5_read_6 22 rfl rfl
theorem dksX5_read_8 : cX5_read.data.toList.drop 189 = dktX5_read_8 := dk_seg dksX5_read_7 24 rfl rfl
theorem dX5_read_0 : decode cX5_read 0 = .ok (.aload_n 0, 1) := dk_42 (dk_at dksX5_read_0 0 rfl rfl)
theorem dX5_read_1 : decode cX5_read 1 = .ok (.getfield 125, 3) := dk_180 0 125 (dk_at dksX5_read_0 1 rfl rfl)
theorem dX5_read_4 : decode cX5_read 4 = .ok (.aload_n 0, 1) := dk_42 (dk_at dksX5_read_0 4 rfl rfl)
theorem dX5_read_5 : decode cX5_read 5 = .ok (.getfield 122, 3) := dk_180 0 122 (dk_at dksX5_read_0 5 rfl rfl)
theorem dX5_read_8 : decode cX5_read 8 = .ok (.if_icmp .ge 15, 3) := dk_162 0 15 (dk_at dksX5_read_0 8 rfl rfl)
theorem dX5_read_11 : decode cX5_read 11 = .ok (.aload_n 0, 1) := dk_42 (dk_at dksX5_read_0 11 rfl rfl)
theorem dX5_read_12 : decode cX5_read 12 = .ok (.getfield 22, 3) := dk_180 0 22 (dk_at dksX5_read_0 12 rfl rfl)
theorem dX5_read_15 : decode cX5_read 15 = .ok (.aload_n 0, 1) := dk_42 (dk_at dksX5_read_0 15 rfl rfl)
theorem dX5_read_16 : decode cX5_read 16 = .ok (.getfield 125, 3) := dk_180 0 125 (dk_at dksX5_read_0 16 rfl rfl)
theorem dX5_read_19 : decode cX5_read 19 = .ok (.iaload, 1) := dk_46 (dk_at dksX5_read_0 19 rfl rfl)
theorem dX5_read_20 : decode cX5_read 20 = .ok (.goto 4, 3) := dk_167 0 4 (dk_at dksX5_read_0 20 rfl rfl)
theorem dX5_read_23 : decode cX5_read 23 = .ok (.iconst 0, 1) := dk_3 (dk_at dksX5_read_0 23 rfl rfl)
theorem dX5_read_24 : decode cX5_read 24 = .ok (.istore_n 1, 1) := dk_60 (dk_at dksX5_read_1 0 rfl rfl)
theorem dX5_read_25 : decode cX5_read 25 = .ok (.aload_n 0, 1) := dk_42 (dk_at dksX5_read_1 1 rfl rfl)
theorem dX5_read_26 : decode cX5_read 26 = .ok (.aload_n 0, 1) := dk_42 (dk_at dksX5_read_1 2 rfl rfl)
theorem dX5_read_27 : decode cX5_read 27 = .ok (.getfield 128, 3) := dk_180 0 128 (dk_at dksX5_read_1 3 rfl rfl)
theorem dX5_read_30 : decode cX5_read 30 = .ok (.ifCond .ne 45, 3) := dk_154 0 45 (dk_at dksX5_read_1 6 rfl rfl)
theorem dX5_read_33 : decode cX5_read 33 = .ok (.iload_n 1, 1) := dk_27 (dk_at dksX5_read_1 9 rfl rfl)
theorem dX5_read_34 : decode cX5_read 34 = .ok (.bipush 118, 2) := dk_16 118 (dk_at dksX5_read_1 10 rfl rfl)
theorem dX5_read_36 : decode cX5_read 36 = .ok (.if_icmp .eq 43, 3) := dk_159 0 43 (dk_at dksX5_read_1 12 rfl rfl)
theorem dX5_read_39 : decode cX5_read 39 = .ok (.iload_n 1, 1) := dk_27 (dk_at dksX5_read_1 15 rfl rfl)
theorem dX5_read_40 : decode cX5_read 40 = .ok (.bipush 43, 2) := dk_16 43 (dk_at dksX5_read_1 16 rfl rfl)
theorem dX5_read_42 : decode cX5_read 42 = .ok (.if_icmp .eq 37, 3) := dk_159 0 37 (dk_at dksX5_read_1 18 rfl rfl)
theorem dX5_read_45 : decode cX5_read 45 = .ok (.iload_n 1, 1) := dk_27 (dk_at dksX5_read_1 21 rfl rfl)
theorem dX5_read_46 : decode cX5_read 46 = .ok (.bipush 45, 2) := dk_16 45 (dk_at dksX5_read_1 22 rfl rfl)
theorem dX5_read_48 : decode cX5_read 48 = .ok (.if_icmp .eq 31, 3) := dk_159 0 31 (dk_at dksX5_read_2 0 rfl rfl)
theorem dX5_read_51 : decode cX5_read 51 = .ok (.iload_n 1, 1) := dk_27 (dk_at dksX5_read_2 3 rfl rfl)
theorem dX5_read_52 : decode cX5_read 52 = .ok (.bipush 103, 2) := dk_16 103 (dk_at dksX5_read_2 4 rfl rfl)
theorem dX5_read_54 : decode cX5_read 54 = .ok (.if_icmp .eq 25, 3) := dk_159 0 25 (dk_at dksX5_read_2 6 rfl rfl)
theorem dX5_read_57 : decode cX5_read 57 = .ok (.iload_n 1, 1) := dk_27 (dk_at dksX5_read_2 9 rfl rfl)
theorem dX5_read_58 : decode cX5_read 58 = .ok (.bipush 102, 2) := dk_16 102 (dk_at dksX5_read_2 10 rfl rfl)
theorem dX5_read_60 : decode cX5_read 60 = .ok (.if_icmp .eq 19, 3) := dk_159 0 19 (dk_at dksX5_read_2 12 rfl rfl)
theorem dX5_read_63 : decode cX5_read 63 = .ok (.iload_n 1, 1) := dk_27 (dk_at dksX5_read_2 15 rfl rfl)
theorem dX5_read_64 : decode cX5_read 64 = .ok (.bipush 115, 2) := dk_16 115 (dk_at dksX5_read_2 16 rfl rfl)
theorem dX5_read_66 : decode cX5_read 66 = .ok (.if_icmp .eq 13, 3) := dk_159 0 13 (dk_at dksX5_read_2 18 rfl rfl)
theorem dX5_read_69 : decode cX5_read 69 = .ok (.iload_n 1, 1) := dk_27 (dk_at dksX5_read_2 21 rfl rfl)
theorem dX5_read_70 : decode cX5_read 70 = .ok (.bipush 100, 2) := dk_16 100 (dk_at dksX5_read_2 22 rfl rfl)
theorem dX5_read_72 : decode cX5_read 72 = .ok (.if_icmp .eq 7, 3) := dk_159 0 7 (dk_at dksX5_read_3 0 rfl rfl)
theorem dX5_read_75 : decode cX5_read 75 = .ok (.iconst 1, 1) := dk_4 (dk_at dksX5_read_3 3 rfl rfl)
theorem dX5_read_76 : decode cX5_read 76 = .ok (.goto 4, 3) := dk_167 0 4 (dk_at dksX5_read_3 4 rfl rfl)
theorem dX5_read_79 : decode cX5_read 79 = .ok (.iconst 0, 1) := dk_3 (dk_at dksX5_read_3 7 rfl rfl)
theorem dX5_read_80 : decode cX5_read 80 = .ok (.putfield 128, 3) := dk_181 0 128 (dk_at dksX5_read_3 8 rfl rfl)
theorem dX5_read_83 : decode cX5_read 83 = .ok (.aload_n 0, 1) := dk_42 (dk_at dksX5_read_3 11 rfl rfl)
theorem dX5_read_84 : decode cX5_read 84 = .ok (.dup, 1) := dk_89 (dk_at dksX5_read_3 12 rfl rfl)
theorem dX5_read_85 : decode cX5_read 85 = .ok (.getfield 125, 3) := dk_180 0 125 (dk_at dksX5_read_3 13 rfl rfl)
theorem dX5_read_88 : decode cX5_read 88 = .ok (.aload_n 0, 1) := dk_42 (dk_at dksX5_read_3 16 rfl rfl)
theorem dX5_read_89 : decode cX5_read 89 = .ok (.getfield 128, 3) := dk_180 0 128 (dk_at dksX5_read_3 17 rfl rfl)
theorem dX5_read_92 : decode cX5_read 92 = .ok (.ifCond .eq 7, 3) := dk_153 0 7 (dk_at dksX5_read_3 20 rfl rfl)
theorem dX5_read_95 : decode cX5_read 95 = .ok (.iconst 0, 1) := dk_3 (dk_at dksX5_read_3 23 rfl rfl)
theorem dX5_read_96 : decode cX5_read 96 = .ok (.goto 4, 3) := dk_167 0 4 (dk_at dksX5_read_4 0 rfl rfl)
theorem dX5_read_99 : decode cX5_read 99 = .ok (.iconst 1, 1) := dk_4 (dk_at dksX5_read_4 3 rfl rfl)
theorem dX5_read_100 : decode cX5_read 100 = .ok (.iadd, 1) := dk_96 (dk_at dksX5_read_4 4 rfl rfl)
theorem dX5_read_101 : decode cX5_read 101 = .ok (.putfield 125, 3) := dk_181 0 125 (dk_at dksX5_read_4 5 rfl rfl)
theorem dX5_read_104 : decode cX5_read 104 = .ok (.aload_n 0, 1) := dk_42 (dk_at dksX5_read_4 8 rfl rfl)
theorem dX5_read_105 : decode cX5_read 105 = .ok (.iload_n 1, 1) := dk_27 (dk_at dksX5_read_4 9 rfl rfl)
theorem dX5_read_106 : decode cX5_read 106 = .ok (.putfield 135, 3) := dk_181 0 135 (dk_at dksX5_read_4 10 rfl rfl)
theorem dX5_read_109 : decode cX5_read 109 = .ok (.aload_n 0, 1) := dk_42 (dk_at dksX5_read_4 13 rfl rfl)
theorem dX5_read_110 : decode cX5_read 110 = .ok (.iload_n 1, 1) := dk_27 (dk_at dksX5_read_4 14 rfl rfl)
theorem dX5_read_111 : decode cX5_read 111 = .ok (.bipush 115, 2) := dk_16 115 (dk_at dksX5_read_4 15 rfl rfl)
theorem dX5_read_113 : decode cX5_read 113 = .ok (.if_icmp .eq 9, 3) := dk_159 0 9 (dk_at dksX5_read_4 17 rfl rfl)
theorem dX5_read_116 : decode cX5_read 116 = .ok (.iload_n 1, 1) := dk_27 (dk_at dksX5_read_4 20 rfl rfl)
theorem dX5_read_117 : decode cX5_read 117 = .ok (.bipush 100, 2) := dk_16 100 (dk_at dksX5_read_4 21 rfl rfl)
theorem dX5_read_119 : decode cX5_read 119 = .ok (.if_icmp .ne 7, 3) := dk_160 0 7 (dk_at dksX5_read_5 0 rfl rfl)
theorem dX5_read_122 : decode cX5_read 122 = .ok (.iconst 0, 1) := dk_3 (dk_at dksX5_read_5 3 rfl rfl)
theorem dX5_read_123 : decode cX5_read 123 = .ok (.goto 42, 3) := dk_167 0 42 (dk_at dksX5_read_5 4 rfl rfl)
theorem dX5_read_126 : decode cX5_read 126 = .ok (.aload_n 0, 1) := dk_42 (dk_at dksX5_read_5 7 rfl rfl)
theorem dX5_read_127 : decode cX5_read 127 = .ok (.bipush 48, 2) := dk_16 48 (dk_at dksX5_read_5 8 rfl rfl)
theorem dX5_read_129 : decode cX5_read 129 = .ok (.iload_n 1, 1) := dk_27 (dk_at dksX5_read_5 10 rfl rfl)
theorem dX5_read_130 : decode cX5_read 130 = .ok (.bipush 118, 2) := dk_16 118 (dk_at dksX5_read_5 11 rfl rfl)
theorem dX5_read_132 : decode cX5_read 132 = .ok (.if_icmp .ne 8, 3) := dk_160 0 8 (dk_at dksX5_read_5 13 rfl rfl)
theorem dX5_read_135 : decode cX5_read 135 = .ok (.bipush 52, 2) := dk_16 52 (dk_at dksX5_read_5 16 rfl rfl)
theorem dX5_read_137 : decode cX5_read 137 = .ok (.goto 22, 3) := dk_167 0 22 (dk_at dksX5_read_5 18 rfl rfl)
theorem dX5_read_140 : decode cX5_read 140 = .ok (.iload_n 1, 1) := dk_27 (dk_at dksX5_read_5 21 rfl rfl)
theorem dX5_read_141 : decode cX5_read 141 = .ok (.bipush 43, 2) := dk_16 43 (dk_at dksX5_read_5 22 rfl rfl)
theorem dX5_read_143 : decode cX5_read 143 = .ok (.if_icmp .eq 9, 3) := dk_159 0 9 (dk_at dksX5_read_6 0 rfl rfl)
theorem dX5_read_146 : decode cX5_read 146 = .ok (.iload_n 1, 1) := dk_27 (dk_at dksX5_read_6 3 rfl rfl)
theorem dX5_read_147 : decode cX5_read 147 = .ok (.bipush 45, 2) := dk_16 45 (dk_at dksX5_read_6 4 rfl rfl)
theorem dX5_read_149 : decode cX5_read 149 = .ok (.if_icmp .ne 8, 3) := dk_160 0 8 (dk_at dksX5_read_6 6 rfl rfl)
theorem dX5_read_152 : decode cX5_read 152 = .ok (.bipush 57, 2) := dk_16 57 (dk_at dksX5_read_6 9 rfl rfl)
theorem dX5_read_154 : decode cX5_read 154 = .ok (.goto 5, 3) := dk_167 0 5 (dk_at dksX5_read_6 11 rfl rfl)
theorem dX5_read_157 : decode cX5_read 157 = .ok (.bipush 49, 2) := dk_16 49 (dk_at dksX5_read_6 14 rfl rfl)
theorem dX5_read_159 : decode cX5_read 159 = .ok (.invokevirtual 132, 3) := dk_182 0 132 (dk_at dksX5_read_6 16 rfl rfl)
theorem dX5_read_162 : decode cX5_read 162 = .ok (.bipush 48, 2) := dk_16 48 (dk_at dksX5_read_6 19 rfl rfl)
theorem dX5_read_164 : decode cX5_read 164 = .ok (.isub, 1) := dk_100 (dk_at dksX5_read_6 21 rfl rfl)
theorem dX5_read_165 : decode cX5_read 165 = .ok (.putfield 138, 3) := dk_181 0 138 (dk_at dksX5_read_7 0 rfl rfl)
theorem dX5_read_168 : decode cX5_read 168 = .ok (.iload_n 1, 1) := dk_27 (dk_at dksX5_read_7 3 rfl rfl)
theorem dX5_read_169 : decode cX5_read 169 = .ok (.bipush 102, 2) := dk_16 102 (dk_at dksX5_read_7 4 rfl rfl)
theorem dX5_read_171 : decode cX5_read 171 = .ok (.if_icmp .ne 14, 3) := dk_160 0 14 (dk_at dksX5_read_7 6 rfl rfl)
theorem dX5_read_174 : decode cX5_read 174 = .ok (.aload_n 0, 1) := dk_42 (dk_at dksX5_read_7 9 rfl rfl)
theorem dX5_read_175 : decode cX5_read 175 = .ok (.bipush 58, 2) := dk_16 58 (dk_at dksX5_read_7 10 rfl rfl)
theorem dX5_read_177 : decode cX5_read 177 = .ok (.bipush 58, 2) := dk_16 58 (dk_at dksX5_read_7 12 rfl rfl)
theorem dX5_read_179 : decode cX5_read 179 = .ok (.invokevirtual 132, 3) := dk_182 0 132 (dk_at dksX5_read_7 14 rfl rfl)
theorem dX5_read_182 : decode cX5_read 182 = .ok (.goto 4, 3) := dk_167 0 4 (dk_at dksX5_read_7 17 rfl rfl)
theorem dX5_read_185 : decode cX5_read 185 = .ok (.iconst 0, 1) := dk_3 (dk_at dksX5_read_7 20 rfl rfl)
theorem dX5_read_186 : decode cX5_read 186 = .ok (.istore_n 2, 1) := dk_61 (dk_at dksX5_read_7 21 rfl rfl)
theorem dX5_read_187 : decode cX5_read 187 = .ok (.aload_n 0, 1) := dk_42 (dk_at dksX5_read_7 22 rfl rfl)
theorem dX5_read_188 : decode cX5_read 188 = .ok (.iload_n 1, 1) := dk_27 (dk_at dksX5_read_7 23 rfl rfl)
theorem dX5_read_189 : decode cX5_read 189 = .ok (.bipush 102, 2) := dk_16 102 (dk_at dksX5_read_8 0 rfl rfl)
theorem dX5_read_191 : decode cX5_read 191 = .ok (.if_icmp .ne 10, 3) := dk_160 0 10 (dk_at dksX5_read_8 2 rfl rfl)
theorem dX5_read_194 : decode cX5_read 194 = .ok (.aload_n 0, 1) := dk_42 (dk_at dksX5_read_8 5 rfl rfl)
theorem dX5_read_195 : decode cX5_read 195 = .ok (.invokevirtual 141, 3) := dk_182 0 141 (dk_at dksX5_read_8 6 rfl rfl)
theorem dX5_read_198 : decode cX5_read 198 = .ok (.goto 4, 3) := dk_167 0 4 (dk_at dksX5_read_8 9 rfl rfl)
theorem dX5_read_201 : decode cX5_read 201 = .ok (.iconst 0, 1) := dk_3 (dk_at dksX5_read_8 12 rfl rfl)
theorem dX5_read_202 : decode cX5_read 202 = .ok (.putfield 144, 3) := dk_181 0 144 (dk_at dksX5_read_8 13 rfl rfl)
theorem dX5_read_205 : decode cX5_read 205 = .ok (.return_, 1) := dk_177 (dk_at dksX5_read_8 16 rfl rfl)
abbrev cX5_sign : ByteArray := prog_14_method_40_code
def yX5_sign : MethodName := ⟨RX5, "sign", "(II)I"⟩
def dkwX5_sign_3 : List UInt8 := [29, 172]
abbrev dktX5_sign_3 : List UInt8 := dkwX5_sign_3 ++ []
def dkwX5_sign_2 : List UInt8 := [181, 0, 128, 42, 89, 180, 0, 125, 42, 180, 0, 128, 153, 0, 7, 3, 167, 0, 4, 4, 96, 181, 0, 125]
abbrev dktX5_sign_2 : List UInt8 := dkwX5_sign_2 ++ dktX5_sign_3
def dkwX5_sign_1 : List UInt8 := [62, 42, 42, 180, 0, 128, 154, 0, 12, 29, 27, 28, 184, 0, 37, 154, 0, 7, 4, 167, 0, 4, 3]
abbrev dktX5_sign_1 : List UInt8 := dkwX5_sign_1 ++ dktX5_sign_2
def dkwX5_sign_0 : List UInt8 := [42, 180, 0, 125, 42, 180, 0, 122, 162, 0, 15, 42, 180, 0, 22, 42, 180, 0, 125, 46, 167, 0, 4, 3]
abbrev dktX5_sign_0 : List UInt8 := dkwX5_sign_0 ++ dktX5_sign_1
theorem dksX5_sign_0 : cX5_sign.data.toList.drop 0 = dktX5_sign_0 := by decide +kernel
theorem dksX5_sign_1 : cX5_sign.data.toList.drop 24 = dktX5_sign_1 := dk_seg dksX5_sign_0 24 rfl rfl
theorem dksX5_sign_2 : cX5_sign.data.toList.drop 47 = dktX5_sign_2 := dk_seg dksX5_sign_1 23 rfl rfl
theorem dksX5_sign_3 : cX5_sign.data.toList.drop 71 = dktX5_sign_3 := dk_seg dksX5_sign_2 24 rfl rfl
theorem dX5_sign_0 : decode cX5_sign 0 = .ok (.aload_n 0, 1) := dk_42 (dk_at dksX5_sign_0 0 rfl rfl)
theorem dX5_sign_1 : decode cX5_sign 1 = .ok (.getfield 125, 3) := dk_180 0 125 (dk_at dksX5_sign_0 1 rfl rfl)
theorem dX5_sign_4 : decode cX5_sign 4 = .ok (.aload_n 0, 1) := dk_42 (dk_at dksX5_sign_0 4 rfl rfl)
theorem dX5_sign_5 : decode cX5_sign 5 = .ok (.getfield 122, 3) := dk_180 0 122 (dk_at dksX5_sign_0 5 rfl rfl)
theorem dX5_sign_8 : decode cX5_sign 8 = .ok (.if_icmp .ge 15, 3) := dk_162 0 15 (dk_at dksX5_sign_0 8 rfl rfl)
theorem dX5_sign_11 : decode cX5_sign 11 = .ok (.aload_n 0, 1) := dk_42 (dk_at dksX5_sign_0 11 rfl rfl)
theorem dX5_sign_12 : decode cX5_sign 12 = .ok (.getfield 22, 3) := dk_180 0 22 (dk_at dksX5_sign_0 12 rfl rfl)
theorem dX5_sign_15 : decode cX5_sign 15 = .ok (.aload_n 0, 1) := dk_42 (dk_at dksX5_sign_0 15 rfl rfl)
theorem dX5_sign_16 : decode cX5_sign 16 = .ok (.getfield 125, 3) := dk_180 0 125 (dk_at dksX5_sign_0 16 rfl rfl)
theorem dX5_sign_19 : decode cX5_sign 19 = .ok (.iaload, 1) := dk_46 (dk_at dksX5_sign_0 19 rfl rfl)
theorem dX5_sign_20 : decode cX5_sign 20 = .ok (.goto 4, 3) := dk_167 0 4 (dk_at dksX5_sign_0 20 rfl rfl)
theorem dX5_sign_23 : decode cX5_sign 23 = .ok (.iconst 0, 1) := dk_3 (dk_at dksX5_sign_0 23 rfl rfl)
theorem dX5_sign_24 : decode cX5_sign 24 = .ok (.istore_n 3, 1) := dk_62 (dk_at dksX5_sign_1 0 rfl rfl)
theorem dX5_sign_25 : decode cX5_sign 25 = .ok (.aload_n 0, 1) := dk_42 (dk_at dksX5_sign_1 1 rfl rfl)
theorem dX5_sign_26 : decode cX5_sign 26 = .ok (.aload_n 0, 1) := dk_42 (dk_at dksX5_sign_1 2 rfl rfl)
theorem dX5_sign_27 : decode cX5_sign 27 = .ok (.getfield 128, 3) := dk_180 0 128 (dk_at dksX5_sign_1 3 rfl rfl)
theorem dX5_sign_30 : decode cX5_sign 30 = .ok (.ifCond .ne 12, 3) := dk_154 0 12 (dk_at dksX5_sign_1 6 rfl rfl)
theorem dX5_sign_33 : decode cX5_sign 33 = .ok (.iload_n 3, 1) := dk_29 (dk_at dksX5_sign_1 9 rfl rfl)
theorem dX5_sign_34 : decode cX5_sign 34 = .ok (.iload_n 1, 1) := dk_27 (dk_at dksX5_sign_1 10 rfl rfl)
theorem dX5_sign_35 : decode cX5_sign 35 = .ok (.iload_n 2, 1) := dk_28 (dk_at dksX5_sign_1 11 rfl rfl)
theorem dX5_sign_36 : decode cX5_sign 36 = .ok (.invokestatic 37, 3) := dk_184 0 37 (dk_at dksX5_sign_1 12 rfl rfl)
theorem dX5_sign_39 : decode cX5_sign 39 = .ok (.ifCond .ne 7, 3) := dk_154 0 7 (dk_at dksX5_sign_1 15 rfl rfl)
theorem dX5_sign_42 : decode cX5_sign 42 = .ok (.iconst 1, 1) := dk_4 (dk_at dksX5_sign_1 18 rfl rfl)
theorem dX5_sign_43 : decode cX5_sign 43 = .ok (.goto 4, 3) := dk_167 0 4 (dk_at dksX5_sign_1 19 rfl rfl)
theorem dX5_sign_46 : decode cX5_sign 46 = .ok (.iconst 0, 1) := dk_3 (dk_at dksX5_sign_1 22 rfl rfl)
theorem dX5_sign_47 : decode cX5_sign 47 = .ok (.putfield 128, 3) := dk_181 0 128 (dk_at dksX5_sign_2 0 rfl rfl)
theorem dX5_sign_50 : decode cX5_sign 50 = .ok (.aload_n 0, 1) := dk_42 (dk_at dksX5_sign_2 3 rfl rfl)
theorem dX5_sign_51 : decode cX5_sign 51 = .ok (.dup, 1) := dk_89 (dk_at dksX5_sign_2 4 rfl rfl)
theorem dX5_sign_52 : decode cX5_sign 52 = .ok (.getfield 125, 3) := dk_180 0 125 (dk_at dksX5_sign_2 5 rfl rfl)
theorem dX5_sign_55 : decode cX5_sign 55 = .ok (.aload_n 0, 1) := dk_42 (dk_at dksX5_sign_2 8 rfl rfl)
theorem dX5_sign_56 : decode cX5_sign 56 = .ok (.getfield 128, 3) := dk_180 0 128 (dk_at dksX5_sign_2 9 rfl rfl)
theorem dX5_sign_59 : decode cX5_sign 59 = .ok (.ifCond .eq 7, 3) := dk_153 0 7 (dk_at dksX5_sign_2 12 rfl rfl)
theorem dX5_sign_62 : decode cX5_sign 62 = .ok (.iconst 0, 1) := dk_3 (dk_at dksX5_sign_2 15 rfl rfl)
theorem dX5_sign_63 : decode cX5_sign 63 = .ok (.goto 4, 3) := dk_167 0 4 (dk_at dksX5_sign_2 16 rfl rfl)
theorem dX5_sign_66 : decode cX5_sign 66 = .ok (.iconst 1, 1) := dk_4 (dk_at dksX5_sign_2 19 rfl rfl)
theorem dX5_sign_67 : decode cX5_sign 67 = .ok (.iadd, 1) := dk_96 (dk_at dksX5_sign_2 20 rfl rfl)
theorem dX5_sign_68 : decode cX5_sign 68 = .ok (.putfield 125, 3) := dk_181 0 125 (dk_at dksX5_sign_2 21 rfl rfl)
theorem dX5_sign_71 : decode cX5_sign 71 = .ok (.iload_n 3, 1) := dk_29 (dk_at dksX5_sign_3 0 rfl rfl)
theorem dX5_sign_72 : decode cX5_sign 72 = .ok (.ireturn, 1) := dk_172 (dk_at dksX5_sign_3 1 rfl rfl)
abbrev cX5_minutes : ByteArray := prog_14_method_41_code
def yX5_minutes : MethodName := ⟨RX5, "minutes", "()I"⟩
def dkwX5_minutes_4 : List UInt8 := [42, 180, 0, 128, 154, 0, 9, 27, 8, 112, 153, 0, 7, 4, 167, 0, 4, 3, 181, 0, 128, 27, 172]
abbrev dktX5_minutes_4 : List UInt8 := dkwX5_minutes_4 ++ []
def dkwX5_minutes_3 : List UInt8 := [163, 0, 23, 16, 10, 27, 104, 42, 16, 48, 16, 57, 182, 0, 132, 96, 16, 48, 100, 60, 167, 255, 179, 42]
abbrev dktX5_minutes_3 : List UInt8 := dkwX5_minutes_3 ++ dktX5_minutes_4
def dkwX5_minutes_2 : List UInt8 := [153, 0, 46, 16, 10, 27, 104, 42, 180, 0, 22, 42, 180, 0, 125, 46, 96, 16, 48, 100, 17, 1, 244]
abbrev dktX5_minutes_2 : List UInt8 := dkwX5_minutes_2 ++ dktX5_minutes_3
def dkwX5_minutes_1 : List UInt8 := [180, 0, 122, 162, 0, 65, 42, 180, 0, 22, 42, 180, 0, 125, 46, 16, 48, 16, 57, 184, 0, 37]
abbrev dktX5_minutes_1 : List UInt8 := dkwX5_minutes_1 ++ dktX5_minutes_2
def dkwX5_minutes_0 : List UInt8 := [42, 16, 49, 16, 57, 182, 0, 132, 16, 48, 100, 60, 42, 180, 0, 128, 154, 0, 76, 42, 180, 0, 125, 42]
abbrev dktX5_minutes_0 : List UInt8 := dkwX5_minutes_0 ++ dktX5_minutes_1
theorem dksX5_minutes_0 : cX5_minutes.data.toList.drop 0 = dktX5_minutes_0 := by decide +kernel
theorem dksX5_minutes_1 : cX5_minutes.data.toList.drop 24 = dktX5_minutes_1 := dk_seg dksX5_minutes_0 24 rfl rfl
theorem dksX5_minutes_2 : cX5_minutes.data.toList.drop 46 = dktX5_minutes_2 := dk_seg dksX5_minutes_1 22 rfl rfl
theorem dksX5_minutes_3 : cX5_minutes.data.toList.drop 69 = dktX5_minutes_3 := dk_seg dksX5_minutes_2 23 rfl rfl
theorem dksX5_minutes_4 : cX5_minutes.data.toList.drop 93 = dktX5_minutes_4 := dk_seg dksX5_minutes_3 24 rfl rfl
theorem dX5_minutes_0 : decode cX5_minutes 0 = .ok (.aload_n 0, 1) := dk_42 (dk_at dksX5_minutes_0 0 rfl rfl)
theorem dX5_minutes_1 : decode cX5_minutes 1 = .ok (.bipush 49, 2) := dk_16 49 (dk_at dksX5_minutes_0 1 rfl rfl)
theorem dX5_minutes_3 : decode cX5_minutes 3 = .ok (.bipush 57, 2) := dk_16 57 (dk_at dksX5_minutes_0 3 rfl rfl)
theorem dX5_minutes_5 : decode cX5_minutes 5 = .ok (.invokevirtual 132, 3) := dk_182 0 132 (dk_at dksX5_minutes_0 5 rfl rfl)
theorem dX5_minutes_8 : decode cX5_minutes 8 = .ok (.bipush 48, 2) := dk_16 48 (dk_at dksX5_minutes_0 8 rfl rfl)
theorem dX5_minutes_10 : decode cX5_minutes 10 = .ok (.isub, 1) := dk_100 (dk_at dksX5_minutes_0 10 rfl rfl)
theorem dX5_minutes_11 : decode cX5_minutes 11 = .ok (.istore_n 1, 1) := dk_60 (dk_at dksX5_minutes_0 11 rfl rfl)
theorem dX5_minutes_12 : decode cX5_minutes 12 = .ok (.aload_n 0, 1) := dk_42 (dk_at dksX5_minutes_0 12 rfl rfl)
theorem dX5_minutes_13 : decode cX5_minutes 13 = .ok (.getfield 128, 3) := dk_180 0 128 (dk_at dksX5_minutes_0 13 rfl rfl)
theorem dX5_minutes_16 : decode cX5_minutes 16 = .ok (.ifCond .ne 76, 3) := dk_154 0 76 (dk_at dksX5_minutes_0 16 rfl rfl)
theorem dX5_minutes_19 : decode cX5_minutes 19 = .ok (.aload_n 0, 1) := dk_42 (dk_at dksX5_minutes_0 19 rfl rfl)
theorem dX5_minutes_20 : decode cX5_minutes 20 = .ok (.getfield 125, 3) := dk_180 0 125 (dk_at dksX5_minutes_0 20 rfl rfl)
theorem dX5_minutes_23 : decode cX5_minutes 23 = .ok (.aload_n 0, 1) := dk_42 (dk_at dksX5_minutes_0 23 rfl rfl)
theorem dX5_minutes_24 : decode cX5_minutes 24 = .ok (.getfield 122, 3) := dk_180 0 122 (dk_at dksX5_minutes_1 0 rfl rfl)
theorem dX5_minutes_27 : decode cX5_minutes 27 = .ok (.if_icmp .ge 65, 3) := dk_162 0 65 (dk_at dksX5_minutes_1 3 rfl rfl)
theorem dX5_minutes_30 : decode cX5_minutes 30 = .ok (.aload_n 0, 1) := dk_42 (dk_at dksX5_minutes_1 6 rfl rfl)
theorem dX5_minutes_31 : decode cX5_minutes 31 = .ok (.getfield 22, 3) := dk_180 0 22 (dk_at dksX5_minutes_1 7 rfl rfl)
theorem dX5_minutes_34 : decode cX5_minutes 34 = .ok (.aload_n 0, 1) := dk_42 (dk_at dksX5_minutes_1 10 rfl rfl)
theorem dX5_minutes_35 : decode cX5_minutes 35 = .ok (.getfield 125, 3) := dk_180 0 125 (dk_at dksX5_minutes_1 11 rfl rfl)
theorem dX5_minutes_38 : decode cX5_minutes 38 = .ok (.iaload, 1) := dk_46 (dk_at dksX5_minutes_1 14 rfl rfl)
theorem dX5_minutes_39 : decode cX5_minutes 39 = .ok (.bipush 48, 2) := dk_16 48 (dk_at dksX5_minutes_1 15 rfl rfl)
theorem dX5_minutes_41 : decode cX5_minutes 41 = .ok (.bipush 57, 2) := dk_16 57 (dk_at dksX5_minutes_1 17 rfl rfl)
theorem dX5_minutes_43 : decode cX5_minutes 43 = .ok (.invokestatic 37, 3) := dk_184 0 37 (dk_at dksX5_minutes_1 19 rfl rfl)
theorem dX5_minutes_46 : decode cX5_minutes 46 = .ok (.ifCond .eq 46, 3) := dk_153 0 46 (dk_at dksX5_minutes_2 0 rfl rfl)
theorem dX5_minutes_49 : decode cX5_minutes 49 = .ok (.bipush 10, 2) := dk_16 10 (dk_at dksX5_minutes_2 3 rfl rfl)
theorem dX5_minutes_51 : decode cX5_minutes 51 = .ok (.iload_n 1, 1) := dk_27 (dk_at dksX5_minutes_2 5 rfl rfl)
theorem dX5_minutes_52 : decode cX5_minutes 52 = .ok (.imul, 1) := dk_104 (dk_at dksX5_minutes_2 6 rfl rfl)
theorem dX5_minutes_53 : decode cX5_minutes 53 = .ok (.aload_n 0, 1) := dk_42 (dk_at dksX5_minutes_2 7 rfl rfl)
theorem dX5_minutes_54 : decode cX5_minutes 54 = .ok (.getfield 22, 3) := dk_180 0 22 (dk_at dksX5_minutes_2 8 rfl rfl)
theorem dX5_minutes_57 : decode cX5_minutes 57 = .ok (.aload_n 0, 1) := dk_42 (dk_at dksX5_minutes_2 11 rfl rfl)
theorem dX5_minutes_58 : decode cX5_minutes 58 = .ok (.getfield 125, 3) := dk_180 0 125 (dk_at dksX5_minutes_2 12 rfl rfl)
theorem dX5_minutes_61 : decode cX5_minutes 61 = .ok (.iaload, 1) := dk_46 (dk_at dksX5_minutes_2 15 rfl rfl)
theorem dX5_minutes_62 : decode cX5_minutes 62 = .ok (.iadd, 1) := dk_96 (dk_at dksX5_minutes_2 16 rfl rfl)
theorem dX5_minutes_63 : decode cX5_minutes 63 = .ok (.bipush 48, 2) := dk_16 48 (dk_at dksX5_minutes_2 17 rfl rfl)
theorem dX5_minutes_65 : decode cX5_minutes 65 = .ok (.isub, 1) := dk_100 (dk_at dksX5_minutes_2 19 rfl rfl)
theorem dX5_minutes_66 : decode cX5_minutes 66 = .ok (.sipush 500, 3) := dk_17 1 244 (dk_at dksX5_minutes_2 20 rfl rfl)
theorem dX5_minutes_69 : decode cX5_minutes 69 = .ok (.if_icmp .gt 23, 3) := dk_163 0 23 (dk_at dksX5_minutes_3 0 rfl rfl)
theorem dX5_minutes_72 : decode cX5_minutes 72 = .ok (.bipush 10, 2) := dk_16 10 (dk_at dksX5_minutes_3 3 rfl rfl)
theorem dX5_minutes_74 : decode cX5_minutes 74 = .ok (.iload_n 1, 1) := dk_27 (dk_at dksX5_minutes_3 5 rfl rfl)
theorem dX5_minutes_75 : decode cX5_minutes 75 = .ok (.imul, 1) := dk_104 (dk_at dksX5_minutes_3 6 rfl rfl)
theorem dX5_minutes_76 : decode cX5_minutes 76 = .ok (.aload_n 0, 1) := dk_42 (dk_at dksX5_minutes_3 7 rfl rfl)
theorem dX5_minutes_77 : decode cX5_minutes 77 = .ok (.bipush 48, 2) := dk_16 48 (dk_at dksX5_minutes_3 8 rfl rfl)
theorem dX5_minutes_79 : decode cX5_minutes 79 = .ok (.bipush 57, 2) := dk_16 57 (dk_at dksX5_minutes_3 10 rfl rfl)
theorem dX5_minutes_81 : decode cX5_minutes 81 = .ok (.invokevirtual 132, 3) := dk_182 0 132 (dk_at dksX5_minutes_3 12 rfl rfl)
theorem dX5_minutes_84 : decode cX5_minutes 84 = .ok (.iadd, 1) := dk_96 (dk_at dksX5_minutes_3 15 rfl rfl)
theorem dX5_minutes_85 : decode cX5_minutes 85 = .ok (.bipush 48, 2) := dk_16 48 (dk_at dksX5_minutes_3 16 rfl rfl)
theorem dX5_minutes_87 : decode cX5_minutes 87 = .ok (.isub, 1) := dk_100 (dk_at dksX5_minutes_3 18 rfl rfl)
theorem dX5_minutes_88 : decode cX5_minutes 88 = .ok (.istore_n 1, 1) := dk_60 (dk_at dksX5_minutes_3 19 rfl rfl)
theorem dX5_minutes_89 : decode cX5_minutes 89 = .ok (.goto (-77), 3) := dk_167 255 179 (dk_at dksX5_minutes_3 20 rfl rfl)
theorem dX5_minutes_92 : decode cX5_minutes 92 = .ok (.aload_n 0, 1) := dk_42 (dk_at dksX5_minutes_3 23 rfl rfl)
theorem dX5_minutes_93 : decode cX5_minutes 93 = .ok (.aload_n 0, 1) := dk_42 (dk_at dksX5_minutes_4 0 rfl rfl)
theorem dX5_minutes_94 : decode cX5_minutes 94 = .ok (.getfield 128, 3) := dk_180 0 128 (dk_at dksX5_minutes_4 1 rfl rfl)
theorem dX5_minutes_97 : decode cX5_minutes 97 = .ok (.ifCond .ne 9, 3) := dk_154 0 9 (dk_at dksX5_minutes_4 4 rfl rfl)
theorem dX5_minutes_100 : decode cX5_minutes 100 = .ok (.iload_n 1, 1) := dk_27 (dk_at dksX5_minutes_4 7 rfl rfl)
theorem dX5_minutes_101 : decode cX5_minutes 101 = .ok (.iconst 5, 1) := dk_8 (dk_at dksX5_minutes_4 8 rfl rfl)
theorem dX5_minutes_102 : decode cX5_minutes 102 = .ok (.irem, 1) := dk_112 (dk_at dksX5_minutes_4 9 rfl rfl)
theorem dX5_minutes_103 : decode cX5_minutes 103 = .ok (.ifCond .eq 7, 3) := dk_153 0 7 (dk_at dksX5_minutes_4 10 rfl rfl)
theorem dX5_minutes_106 : decode cX5_minutes 106 = .ok (.iconst 1, 1) := dk_4 (dk_at dksX5_minutes_4 13 rfl rfl)
theorem dX5_minutes_107 : decode cX5_minutes 107 = .ok (.goto 4, 3) := dk_167 0 4 (dk_at dksX5_minutes_4 14 rfl rfl)
theorem dX5_minutes_110 : decode cX5_minutes 110 = .ok (.iconst 0, 1) := dk_3 (dk_at dksX5_minutes_4 17 rfl rfl)
theorem dX5_minutes_111 : decode cX5_minutes 111 = .ok (.putfield 128, 3) := dk_181 0 128 (dk_at dksX5_minutes_4 18 rfl rfl)
theorem dX5_minutes_114 : decode cX5_minutes 114 = .ok (.iload_n 1, 1) := dk_27 (dk_at dksX5_minutes_4 21 rfl rfl)
theorem dX5_minutes_115 : decode cX5_minutes 115 = .ok (.ireturn, 1) := dk_172 (dk_at dksX5_minutes_4 22 rfl rfl)
abbrev cX5_does : ByteArray := prog_14_method_44_code
def yX5_does : MethodName := ⟨RX5, "does", "()I"⟩
def dkwX5_does_7 : List UInt8 := [182, 0, 116, 167, 0, 7, 42, 182, 0, 119, 62, 3, 172]
abbrev dktX5_does_7 : List UInt8 := dkwX5_does_7 ++ []
def dkwX5_does_6 : List UInt8 := [180, 0, 144, 182, 0, 106, 167, 0, 27, 27, 16, 115, 160, 0, 17, 42, 42, 180, 0, 7, 16, 54, 46]
abbrev dktX5_does_6 : List UInt8 := dkwX5_does_6 ++ dktX5_does_7
def dkwX5_does_5 : List UInt8 := [4, 167, 0, 4, 3, 182, 0, 93, 167, 0, 48, 27, 16, 102, 160, 0, 18, 42, 42, 180, 0, 138, 42]
abbrev dktX5_does_5 : List UInt8 := dkwX5_does_5 ++ dktX5_does_6
def dkwX5_does_4 : List UInt8 := [180, 0, 138, 104, 96, 42, 180, 0, 7, 16, 50, 5, 42, 180, 0, 138, 104, 96, 46, 18, 25, 159, 0, 7]
abbrev dktX5_does_4 : List UInt8 := dkwX5_does_4 ++ dktX5_does_5
def dkwX5_does_3 : List UInt8 := [4, 167, 0, 4, 3, 182, 0, 93, 167, 0, 94, 27, 16, 103, 160, 0, 43, 42, 16, 50, 5, 42]
abbrev dktX5_does_3 : List UInt8 := dkwX5_does_3 ++ dktX5_does_4
def dkwX5_does_2 : List UInt8 := [159, 0, 9, 27, 16, 45, 160, 0, 29, 42, 42, 180, 0, 138, 3, 184, 0, 33, 27, 16, 43, 160, 0, 7]
abbrev dktX5_does_2 : List UInt8 := dkwX5_does_2 ++ dktX5_does_3
def dkwX5_does_1 : List UInt8 := [28, 172, 27, 16, 118, 160, 0, 14, 42, 42, 180, 0, 138, 182, 0, 86, 167, 0, 132, 27, 16, 43]
abbrev dktX5_does_1 : List UInt8 := dkwX5_does_1 ++ dktX5_does_2
def dkwX5_does_0 : List UInt8 := [42, 180, 0, 135, 60, 42, 182, 0, 147, 61, 28, 156, 0, 15, 28, 18, 25, 160, 0, 7, 3, 167, 0, 4]
abbrev dktX5_does_0 : List UInt8 := dkwX5_does_0 ++ dktX5_does_1
theorem dksX5_does_0 : cX5_does.data.toList.drop 0 = dktX5_does_0 := by decide +kernel
theorem dksX5_does_1 : cX5_does.data.toList.drop 24 = dktX5_does_1 := dk_seg dksX5_does_0 24 rfl rfl
theorem dksX5_does_2 : cX5_does.data.toList.drop 46 = dktX5_does_2 := dk_seg dksX5_does_1 22 rfl rfl
theorem dksX5_does_3 : cX5_does.data.toList.drop 70 = dktX5_does_3 := dk_seg dksX5_does_2 24 rfl rfl
theorem dksX5_does_4 : cX5_does.data.toList.drop 92 = dktX5_does_4 := dk_seg dksX5_does_3 22 rfl rfl
theorem dksX5_does_5 : cX5_does.data.toList.drop 116 = dktX5_does_5 := dk_seg dksX5_does_4 24 rfl rfl
theorem dksX5_does_6 : cX5_does.data.toList.drop 139 = dktX5_does_6 := dk_seg dksX5_does_5 23 rfl rfl
theorem dksX5_does_7 : cX5_does.data.toList.drop 162 = dktX5_does_7 := dk_seg dksX5_does_6 23 rfl rfl
theorem dX5_does_0 : decode cX5_does 0 = .ok (.aload_n 0, 1) := dk_42 (dk_at dksX5_does_0 0 rfl rfl)
theorem dX5_does_1 : decode cX5_does 1 = .ok (.getfield 135, 3) := dk_180 0 135 (dk_at dksX5_does_0 1 rfl rfl)
theorem dX5_does_4 : decode cX5_does 4 = .ok (.istore_n 1, 1) := dk_60 (dk_at dksX5_does_0 4 rfl rfl)
theorem dX5_does_5 : decode cX5_does 5 = .ok (.aload_n 0, 1) := dk_42 (dk_at dksX5_does_0 5 rfl rfl)
theorem dX5_does_6 : decode cX5_does 6 = .ok (.invokevirtual 147, 3) := dk_182 0 147 (dk_at dksX5_does_0 6 rfl rfl)
theorem dX5_does_9 : decode cX5_does 9 = .ok (.istore_n 2, 1) := dk_61 (dk_at dksX5_does_0 9 rfl rfl)
theorem dX5_does_10 : decode cX5_does 10 = .ok (.iload_n 2, 1) := dk_28 (dk_at dksX5_does_0 10 rfl rfl)
theorem dX5_does_11 : decode cX5_does 11 = .ok (.ifCond .ge 15, 3) := dk_156 0 15 (dk_at dksX5_does_0 11 rfl rfl)
theorem dX5_does_14 : decode cX5_does 14 = .ok (.iload_n 2, 1) := dk_28 (dk_at dksX5_does_0 14 rfl rfl)
theorem dX5_does_15 : decode cX5_does 15 = .ok (.ldc 25, 2) := dk_18 25 (dk_at dksX5_does_0 15 rfl rfl)
theorem dX5_does_17 : decode cX5_does 17 = .ok (.if_icmp .ne 7, 3) := dk_160 0 7 (dk_at dksX5_does_0 17 rfl rfl)
theorem dX5_does_20 : decode cX5_does 20 = .ok (.iconst 0, 1) := dk_3 (dk_at dksX5_does_0 20 rfl rfl)
theorem dX5_does_21 : decode cX5_does 21 = .ok (.goto 4, 3) := dk_167 0 4 (dk_at dksX5_does_0 21 rfl rfl)
theorem dX5_does_24 : decode cX5_does 24 = .ok (.iload_n 2, 1) := dk_28 (dk_at dksX5_does_1 0 rfl rfl)
theorem dX5_does_25 : decode cX5_does 25 = .ok (.ireturn, 1) := dk_172 (dk_at dksX5_does_1 1 rfl rfl)
theorem dX5_does_26 : decode cX5_does 26 = .ok (.iload_n 1, 1) := dk_27 (dk_at dksX5_does_1 2 rfl rfl)
theorem dX5_does_27 : decode cX5_does 27 = .ok (.bipush 118, 2) := dk_16 118 (dk_at dksX5_does_1 3 rfl rfl)
theorem dX5_does_29 : decode cX5_does 29 = .ok (.if_icmp .ne 14, 3) := dk_160 0 14 (dk_at dksX5_does_1 5 rfl rfl)
theorem dX5_does_32 : decode cX5_does 32 = .ok (.aload_n 0, 1) := dk_42 (dk_at dksX5_does_1 8 rfl rfl)
theorem dX5_does_33 : decode cX5_does 33 = .ok (.aload_n 0, 1) := dk_42 (dk_at dksX5_does_1 9 rfl rfl)
theorem dX5_does_34 : decode cX5_does 34 = .ok (.getfield 138, 3) := dk_180 0 138 (dk_at dksX5_does_1 10 rfl rfl)
theorem dX5_does_37 : decode cX5_does 37 = .ok (.invokevirtual 86, 3) := dk_182 0 86 (dk_at dksX5_does_1 13 rfl rfl)
theorem dX5_does_40 : decode cX5_does 40 = .ok (.goto 132, 3) := dk_167 0 132 (dk_at dksX5_does_1 16 rfl rfl)
theorem dX5_does_43 : decode cX5_does 43 = .ok (.iload_n 1, 1) := dk_27 (dk_at dksX5_does_1 19 rfl rfl)
theorem dX5_does_44 : decode cX5_does 44 = .ok (.bipush 43, 2) := dk_16 43 (dk_at dksX5_does_1 20 rfl rfl)
theorem dX5_does_46 : decode cX5_does 46 = .ok (.if_icmp .eq 9, 3) := dk_159 0 9 (dk_at dksX5_does_2 0 rfl rfl)
theorem dX5_does_49 : decode cX5_does 49 = .ok (.iload_n 1, 1) := dk_27 (dk_at dksX5_does_2 3 rfl rfl)
theorem dX5_does_50 : decode cX5_does 50 = .ok (.bipush 45, 2) := dk_16 45 (dk_at dksX5_does_2 4 rfl rfl)
theorem dX5_does_52 : decode cX5_does 52 = .ok (.if_icmp .ne 29, 3) := dk_160 0 29 (dk_at dksX5_does_2 6 rfl rfl)
theorem dX5_does_55 : decode cX5_does 55 = .ok (.aload_n 0, 1) := dk_42 (dk_at dksX5_does_2 9 rfl rfl)
theorem dX5_does_56 : decode cX5_does 56 = .ok (.aload_n 0, 1) := dk_42 (dk_at dksX5_does_2 10 rfl rfl)
theorem dX5_does_57 : decode cX5_does 57 = .ok (.getfield 138, 3) := dk_180 0 138 (dk_at dksX5_does_2 11 rfl rfl)
theorem dX5_does_60 : decode cX5_does 60 = .ok (.iconst 0, 1) := dk_3 (dk_at dksX5_does_2 14 rfl rfl)
theorem dX5_does_61 : decode cX5_does 61 = .ok (.invokestatic 33, 3) := dk_184 0 33 (dk_at dksX5_does_2 15 rfl rfl)
theorem dX5_does_64 : decode cX5_does 64 = .ok (.iload_n 1, 1) := dk_27 (dk_at dksX5_does_2 18 rfl rfl)
theorem dX5_does_65 : decode cX5_does 65 = .ok (.bipush 43, 2) := dk_16 43 (dk_at dksX5_does_2 19 rfl rfl)
theorem dX5_does_67 : decode cX5_does 67 = .ok (.if_icmp .ne 7, 3) := dk_160 0 7 (dk_at dksX5_does_2 21 rfl rfl)
theorem dX5_does_70 : decode cX5_does 70 = .ok (.iconst 1, 1) := dk_4 (dk_at dksX5_does_3 0 rfl rfl)
theorem dX5_does_71 : decode cX5_does 71 = .ok (.goto 4, 3) := dk_167 0 4 (dk_at dksX5_does_3 1 rfl rfl)
theorem dX5_does_74 : decode cX5_does 74 = .ok (.iconst 0, 1) := dk_3 (dk_at dksX5_does_3 4 rfl rfl)
theorem dX5_does_75 : decode cX5_does 75 = .ok (.invokevirtual 93, 3) := dk_182 0 93 (dk_at dksX5_does_3 5 rfl rfl)
theorem dX5_does_78 : decode cX5_does 78 = .ok (.goto 94, 3) := dk_167 0 94 (dk_at dksX5_does_3 8 rfl rfl)
theorem dX5_does_81 : decode cX5_does 81 = .ok (.iload_n 1, 1) := dk_27 (dk_at dksX5_does_3 11 rfl rfl)
theorem dX5_does_82 : decode cX5_does 82 = .ok (.bipush 103, 2) := dk_16 103 (dk_at dksX5_does_3 12 rfl rfl)
theorem dX5_does_84 : decode cX5_does 84 = .ok (.if_icmp .ne 43, 3) := dk_160 0 43 (dk_at dksX5_does_3 14 rfl rfl)
theorem dX5_does_87 : decode cX5_does 87 = .ok (.aload_n 0, 1) := dk_42 (dk_at dksX5_does_3 17 rfl rfl)
theorem dX5_does_88 : decode cX5_does 88 = .ok (.bipush 50, 2) := dk_16 50 (dk_at dksX5_does_3 18 rfl rfl)
theorem dX5_does_90 : decode cX5_does 90 = .ok (.iconst 2, 1) := dk_5 (dk_at dksX5_does_3 20 rfl rfl)
theorem dX5_does_91 : decode cX5_does 91 = .ok (.aload_n 0, 1) := dk_42 (dk_at dksX5_does_3 21 rfl rfl)
theorem dX5_does_92 : decode cX5_does 92 = .ok (.getfield 138, 3) := dk_180 0 138 (dk_at dksX5_does_4 0 rfl rfl)
theorem dX5_does_95 : decode cX5_does 95 = .ok (.imul, 1) := dk_104 (dk_at dksX5_does_4 3 rfl rfl)
theorem dX5_does_96 : decode cX5_does 96 = .ok (.iadd, 1) := dk_96 (dk_at dksX5_does_4 4 rfl rfl)
theorem dX5_does_97 : decode cX5_does 97 = .ok (.aload_n 0, 1) := dk_42 (dk_at dksX5_does_4 5 rfl rfl)
theorem dX5_does_98 : decode cX5_does 98 = .ok (.getfield 7, 3) := dk_180 0 7 (dk_at dksX5_does_4 6 rfl rfl)
theorem dX5_does_101 : decode cX5_does 101 = .ok (.bipush 50, 2) := dk_16 50 (dk_at dksX5_does_4 9 rfl rfl)
theorem dX5_does_103 : decode cX5_does 103 = .ok (.iconst 2, 1) := dk_5 (dk_at dksX5_does_4 11 rfl rfl)
theorem dX5_does_104 : decode cX5_does 104 = .ok (.aload_n 0, 1) := dk_42 (dk_at dksX5_does_4 12 rfl rfl)
theorem dX5_does_105 : decode cX5_does 105 = .ok (.getfield 138, 3) := dk_180 0 138 (dk_at dksX5_does_4 13 rfl rfl)
theorem dX5_does_108 : decode cX5_does 108 = .ok (.imul, 1) := dk_104 (dk_at dksX5_does_4 16 rfl rfl)
theorem dX5_does_109 : decode cX5_does 109 = .ok (.iadd, 1) := dk_96 (dk_at dksX5_does_4 17 rfl rfl)
theorem dX5_does_110 : decode cX5_does 110 = .ok (.iaload, 1) := dk_46 (dk_at dksX5_does_4 18 rfl rfl)
theorem dX5_does_111 : decode cX5_does 111 = .ok (.ldc 25, 2) := dk_18 25 (dk_at dksX5_does_4 19 rfl rfl)
theorem dX5_does_113 : decode cX5_does 113 = .ok (.if_icmp .eq 7, 3) := dk_159 0 7 (dk_at dksX5_does_4 21 rfl rfl)
theorem dX5_does_116 : decode cX5_does 116 = .ok (.iconst 1, 1) := dk_4 (dk_at dksX5_does_5 0 rfl rfl)
theorem dX5_does_117 : decode cX5_does 117 = .ok (.goto 4, 3) := dk_167 0 4 (dk_at dksX5_does_5 1 rfl rfl)
theorem dX5_does_120 : decode cX5_does 120 = .ok (.iconst 0, 1) := dk_3 (dk_at dksX5_does_5 4 rfl rfl)
theorem dX5_does_121 : decode cX5_does 121 = .ok (.invokevirtual 93, 3) := dk_182 0 93 (dk_at dksX5_does_5 5 rfl rfl)
theorem dX5_does_124 : decode cX5_does 124 = .ok (.goto 48, 3) := dk_167 0 48 (dk_at dksX5_does_5 8 rfl rfl)
theorem dX5_does_127 : decode cX5_does 127 = .ok (.iload_n 1, 1) := dk_27 (dk_at dksX5_does_5 11 rfl rfl)
theorem dX5_does_128 : decode cX5_does 128 = .ok (.bipush 102, 2) := dk_16 102 (dk_at dksX5_does_5 12 rfl rfl)
theorem dX5_does_130 : decode cX5_does 130 = .ok (.if_icmp .ne 18, 3) := dk_160 0 18 (dk_at dksX5_does_5 14 rfl rfl)
theorem dX5_does_133 : decode cX5_does 133 = .ok (.aload_n 0, 1) := dk_42 (dk_at dksX5_does_5 17 rfl rfl)
theorem dX5_does_134 : decode cX5_does 134 = .ok (.aload_n 0, 1) := dk_42 (dk_at dksX5_does_5 18 rfl rfl)
theorem dX5_does_135 : decode cX5_does 135 = .ok (.getfield 138, 3) := dk_180 0 138 (dk_at dksX5_does_5 19 rfl rfl)
theorem dX5_does_138 : decode cX5_does 138 = .ok (.aload_n 0, 1) := dk_42 (dk_at dksX5_does_5 22 rfl rfl)
theorem dX5_does_139 : decode cX5_does 139 = .ok (.getfield 144, 3) := dk_180 0 144 (dk_at dksX5_does_6 0 rfl rfl)
theorem dX5_does_142 : decode cX5_does 142 = .ok (.invokevirtual 106, 3) := dk_182 0 106 (dk_at dksX5_does_6 3 rfl rfl)
theorem dX5_does_145 : decode cX5_does 145 = .ok (.goto 27, 3) := dk_167 0 27 (dk_at dksX5_does_6 6 rfl rfl)
theorem dX5_does_148 : decode cX5_does 148 = .ok (.iload_n 1, 1) := dk_27 (dk_at dksX5_does_6 9 rfl rfl)
theorem dX5_does_149 : decode cX5_does 149 = .ok (.bipush 115, 2) := dk_16 115 (dk_at dksX5_does_6 10 rfl rfl)
theorem dX5_does_151 : decode cX5_does 151 = .ok (.if_icmp .ne 17, 3) := dk_160 0 17 (dk_at dksX5_does_6 12 rfl rfl)
theorem dX5_does_154 : decode cX5_does 154 = .ok (.aload_n 0, 1) := dk_42 (dk_at dksX5_does_6 15 rfl rfl)
theorem dX5_does_155 : decode cX5_does 155 = .ok (.aload_n 0, 1) := dk_42 (dk_at dksX5_does_6 16 rfl rfl)
theorem dX5_does_156 : decode cX5_does 156 = .ok (.getfield 7, 3) := dk_180 0 7 (dk_at dksX5_does_6 17 rfl rfl)
theorem dX5_does_159 : decode cX5_does 159 = .ok (.bipush 54, 2) := dk_16 54 (dk_at dksX5_does_6 20 rfl rfl)
theorem dX5_does_161 : decode cX5_does 161 = .ok (.iaload, 1) := dk_46 (dk_at dksX5_does_6 22 rfl rfl)
theorem dX5_does_162 : decode cX5_does 162 = .ok (.invokevirtual 116, 3) := dk_182 0 116 (dk_at dksX5_does_7 0 rfl rfl)
theorem dX5_does_165 : decode cX5_does 165 = .ok (.goto 7, 3) := dk_167 0 7 (dk_at dksX5_does_7 3 rfl rfl)
theorem dX5_does_168 : decode cX5_does 168 = .ok (.aload_n 0, 1) := dk_42 (dk_at dksX5_does_7 6 rfl rfl)
theorem dX5_does_169 : decode cX5_does 169 = .ok (.invokevirtual 119, 3) := dk_182 0 119 (dk_at dksX5_does_7 7 rfl rfl)
theorem dX5_does_172 : decode cX5_does 172 = .ok (.istore_n 3, 1) := dk_62 (dk_at dksX5_does_7 10 rfl rfl)
theorem dX5_does_173 : decode cX5_does 173 = .ok (.iconst 0, 1) := dk_3 (dk_at dksX5_does_7 11 rfl rfl)
theorem dX5_does_174 : decode cX5_does 174 = .ok (.ireturn, 1) := dk_172 (dk_at dksX5_does_7 12 rfl rfl)
abbrev cX5_wrong : ByteArray := prog_14_method_43_code
def yX5_wrong : MethodName := ⟨RX5, "wrong", "()I"⟩
def dkwX5_wrong_9 : List UInt8 := [167, 0, 4, 3, 172]
abbrev dktX5_wrong_9 : List UInt8 := dkwX5_wrong_9 ++ []
def dkwX5_wrong_8 : List UInt8 := [16, 54, 46, 182, 0, 112, 100, 172, 42, 180, 0, 7, 16, 55, 46, 17, 39, 15, 160, 0, 8, 18, 49]
abbrev dktX5_wrong_8 : List UInt8 := dkwX5_wrong_8 ++ dktX5_wrong_9
def dkwX5_wrong_7 : List UInt8 := [180, 0, 7, 16, 54, 46, 182, 0, 112, 154, 0, 7, 3, 167, 0, 17, 18, 115, 42, 42, 180, 0, 7]
abbrev dktX5_wrong_7 : List UInt8 := dkwX5_wrong_7 ++ dktX5_wrong_8
def dkwX5_wrong_6 : List UInt8 := [4, 167, 0, 4, 3, 182, 0, 89, 172, 42, 42, 180, 0, 138, 42, 180, 0, 144, 182, 0, 103, 172, 42, 42]
abbrev dktX5_wrong_6 : List UInt8 := dkwX5_wrong_6 ++ dktX5_wrong_7
def dkwX5_wrong_5 : List UInt8 := [180, 0, 138, 104, 96, 42, 180, 0, 7, 16, 50, 5, 42, 180, 0, 138, 104, 96, 46, 18, 25, 159, 0, 7]
abbrev dktX5_wrong_5 : List UInt8 := dkwX5_wrong_5 ++ dktX5_wrong_6
def dkwX5_wrong_4 : List UInt8 := [160, 0, 7, 4, 167, 0, 4, 3, 182, 0, 89, 167, 0, 5, 18, 58, 172, 42, 16, 50, 5, 42]
abbrev dktX5_wrong_4 : List UInt8 := dkwX5_wrong_4 ++ dktX5_wrong_5
def dkwX5_wrong_3 : List UInt8 := [180, 0, 138, 182, 0, 96, 153, 0, 32, 42, 42, 180, 0, 138, 3, 184, 0, 33, 42, 180, 0, 135, 16, 43]
abbrev dktX5_wrong_3 : List UInt8 := dkwX5_wrong_3 ++ dktX5_wrong_4
def dkwX5_wrong_2 : List UInt8 := [42, 180, 0, 7, 16, 54, 46, 42, 180, 0, 138, 160, 0, 8, 18, 25, 167, 0, 4, 3, 172, 42, 42]
abbrev dktX5_wrong_2 : List UInt8 := dkwX5_wrong_2 ++ dktX5_wrong_3
def dkwX5_wrong_1 : List UInt8 := [171, 0, 0, 0, 0, 0, 0, 208, 0, 0, 0, 6, 0, 0, 0, 43, 0, 0, 0, 81, 0, 0, 0, 45, 0, 0, 0, 81, 0, 0, 0, 102, 0, 0, 0, 162, 0, 0, 0, 103, 0, 0, 0, 124, 0, 0, 0, 115, 0, 0, 0, 175, 0, 0, 0, 118, 0, 0, 0, 60]
abbrev dktX5_wrong_1 : List UInt8 := dkwX5_wrong_1 ++ dktX5_wrong_2
def dkwX5_wrong_0 : List UInt8 := [42, 180, 0, 135]
abbrev dktX5_wrong_0 : List UInt8 := dkwX5_wrong_0 ++ dktX5_wrong_1
theorem dksX5_wrong_0 : cX5_wrong.data.toList.drop 0 = dktX5_wrong_0 := by decide +kernel
theorem dksX5_wrong_1 : cX5_wrong.data.toList.drop 4 = dktX5_wrong_1 := dk_seg dksX5_wrong_0 4 rfl rfl
theorem dksX5_wrong_2 : cX5_wrong.data.toList.drop 64 = dktX5_wrong_2 := dk_seg dksX5_wrong_1 60 rfl rfl
theorem dksX5_wrong_3 : cX5_wrong.data.toList.drop 87 = dktX5_wrong_3 := dk_seg dksX5_wrong_2 23 rfl rfl
theorem dksX5_wrong_4 : cX5_wrong.data.toList.drop 111 = dktX5_wrong_4 := dk_seg dksX5_wrong_3 24 rfl rfl
theorem dksX5_wrong_5 : cX5_wrong.data.toList.drop 133 = dktX5_wrong_5 := dk_seg dksX5_wrong_4 22 rfl rfl
theorem dksX5_wrong_6 : cX5_wrong.data.toList.drop 157 = dktX5_wrong_6 := dk_seg dksX5_wrong_5 24 rfl rfl
theorem dksX5_wrong_7 : cX5_wrong.data.toList.drop 181 = dktX5_wrong_7 := dk_seg dksX5_wrong_6 24 rfl rfl
theorem dksX5_wrong_8 : cX5_wrong.data.toList.drop 204 = dktX5_wrong_8 := dk_seg dksX5_wrong_7 23 rfl rfl
theorem dksX5_wrong_9 : cX5_wrong.data.toList.drop 227 = dktX5_wrong_9 := dk_seg dksX5_wrong_8 23 rfl rfl
theorem dX5_wrong_0 : decode cX5_wrong 0 = .ok (.aload_n 0, 1) := dk_42 (dk_at dksX5_wrong_0 0 rfl rfl)
theorem dX5_wrong_1 : decode cX5_wrong 1 = .ok (.getfield 135, 3) := dk_180 0 135 (dk_at dksX5_wrong_0 1 rfl rfl)
theorem dX5_wrong_4 : decode cX5_wrong 4 = .ok (.lookupswitch 208 #[(43, 81), (45, 81), (102, 162), (103, 124), (115, 175), (118, 60)], 60) := by decide +kernel
theorem dX5_wrong_64 : decode cX5_wrong 64 = .ok (.aload_n 0, 1) := dk_42 (dk_at dksX5_wrong_2 0 rfl rfl)
theorem dX5_wrong_65 : decode cX5_wrong 65 = .ok (.getfield 7, 3) := dk_180 0 7 (dk_at dksX5_wrong_2 1 rfl rfl)
theorem dX5_wrong_68 : decode cX5_wrong 68 = .ok (.bipush 54, 2) := dk_16 54 (dk_at dksX5_wrong_2 4 rfl rfl)
theorem dX5_wrong_70 : decode cX5_wrong 70 = .ok (.iaload, 1) := dk_46 (dk_at dksX5_wrong_2 6 rfl rfl)
theorem dX5_wrong_71 : decode cX5_wrong 71 = .ok (.aload_n 0, 1) := dk_42 (dk_at dksX5_wrong_2 7 rfl rfl)
theorem dX5_wrong_72 : decode cX5_wrong 72 = .ok (.getfield 138, 3) := dk_180 0 138 (dk_at dksX5_wrong_2 8 rfl rfl)
theorem dX5_wrong_75 : decode cX5_wrong 75 = .ok (.if_icmp .ne 8, 3) := dk_160 0 8 (dk_at dksX5_wrong_2 11 rfl rfl)
theorem dX5_wrong_78 : decode cX5_wrong 78 = .ok (.ldc 25, 2) := dk_18 25 (dk_at dksX5_wrong_2 14 rfl rfl)
theorem dX5_wrong_80 : decode cX5_wrong 80 = .ok (.goto 4, 3) := dk_167 0 4 (dk_at dksX5_wrong_2 16 rfl rfl)
theorem dX5_wrong_83 : decode cX5_wrong 83 = .ok (.iconst 0, 1) := dk_3 (dk_at dksX5_wrong_2 19 rfl rfl)
theorem dX5_wrong_84 : decode cX5_wrong 84 = .ok (.ireturn, 1) := dk_172 (dk_at dksX5_wrong_2 20 rfl rfl)
theorem dX5_wrong_85 : decode cX5_wrong 85 = .ok (.aload_n 0, 1) := dk_42 (dk_at dksX5_wrong_2 21 rfl rfl)
theorem dX5_wrong_86 : decode cX5_wrong 86 = .ok (.aload_n 0, 1) := dk_42 (dk_at dksX5_wrong_2 22 rfl rfl)
theorem dX5_wrong_87 : decode cX5_wrong 87 = .ok (.getfield 138, 3) := dk_180 0 138 (dk_at dksX5_wrong_3 0 rfl rfl)
theorem dX5_wrong_90 : decode cX5_wrong 90 = .ok (.invokevirtual 96, 3) := dk_182 0 96 (dk_at dksX5_wrong_3 3 rfl rfl)
theorem dX5_wrong_93 : decode cX5_wrong 93 = .ok (.ifCond .eq 32, 3) := dk_153 0 32 (dk_at dksX5_wrong_3 6 rfl rfl)
theorem dX5_wrong_96 : decode cX5_wrong 96 = .ok (.aload_n 0, 1) := dk_42 (dk_at dksX5_wrong_3 9 rfl rfl)
theorem dX5_wrong_97 : decode cX5_wrong 97 = .ok (.aload_n 0, 1) := dk_42 (dk_at dksX5_wrong_3 10 rfl rfl)
theorem dX5_wrong_98 : decode cX5_wrong 98 = .ok (.getfield 138, 3) := dk_180 0 138 (dk_at dksX5_wrong_3 11 rfl rfl)
theorem dX5_wrong_101 : decode cX5_wrong 101 = .ok (.iconst 0, 1) := dk_3 (dk_at dksX5_wrong_3 14 rfl rfl)
theorem dX5_wrong_102 : decode cX5_wrong 102 = .ok (.invokestatic 33, 3) := dk_184 0 33 (dk_at dksX5_wrong_3 15 rfl rfl)
theorem dX5_wrong_105 : decode cX5_wrong 105 = .ok (.aload_n 0, 1) := dk_42 (dk_at dksX5_wrong_3 18 rfl rfl)
theorem dX5_wrong_106 : decode cX5_wrong 106 = .ok (.getfield 135, 3) := dk_180 0 135 (dk_at dksX5_wrong_3 19 rfl rfl)
theorem dX5_wrong_109 : decode cX5_wrong 109 = .ok (.bipush 43, 2) := dk_16 43 (dk_at dksX5_wrong_3 22 rfl rfl)
theorem dX5_wrong_111 : decode cX5_wrong 111 = .ok (.if_icmp .ne 7, 3) := dk_160 0 7 (dk_at dksX5_wrong_4 0 rfl rfl)
theorem dX5_wrong_114 : decode cX5_wrong 114 = .ok (.iconst 1, 1) := dk_4 (dk_at dksX5_wrong_4 3 rfl rfl)
theorem dX5_wrong_115 : decode cX5_wrong 115 = .ok (.goto 4, 3) := dk_167 0 4 (dk_at dksX5_wrong_4 4 rfl rfl)
theorem dX5_wrong_118 : decode cX5_wrong 118 = .ok (.iconst 0, 1) := dk_3 (dk_at dksX5_wrong_4 7 rfl rfl)
theorem dX5_wrong_119 : decode cX5_wrong 119 = .ok (.invokevirtual 89, 3) := dk_182 0 89 (dk_at dksX5_wrong_4 8 rfl rfl)
theorem dX5_wrong_122 : decode cX5_wrong 122 = .ok (.goto 5, 3) := dk_167 0 5 (dk_at dksX5_wrong_4 11 rfl rfl)
theorem dX5_wrong_125 : decode cX5_wrong 125 = .ok (.ldc 58, 2) := dk_18 58 (dk_at dksX5_wrong_4 14 rfl rfl)
theorem dX5_wrong_127 : decode cX5_wrong 127 = .ok (.ireturn, 1) := dk_172 (dk_at dksX5_wrong_4 16 rfl rfl)
theorem dX5_wrong_128 : decode cX5_wrong 128 = .ok (.aload_n 0, 1) := dk_42 (dk_at dksX5_wrong_4 17 rfl rfl)
theorem dX5_wrong_129 : decode cX5_wrong 129 = .ok (.bipush 50, 2) := dk_16 50 (dk_at dksX5_wrong_4 18 rfl rfl)
theorem dX5_wrong_131 : decode cX5_wrong 131 = .ok (.iconst 2, 1) := dk_5 (dk_at dksX5_wrong_4 20 rfl rfl)
theorem dX5_wrong_132 : decode cX5_wrong 132 = .ok (.aload_n 0, 1) := dk_42 (dk_at dksX5_wrong_4 21 rfl rfl)
theorem dX5_wrong_133 : decode cX5_wrong 133 = .ok (.getfield 138, 3) := dk_180 0 138 (dk_at dksX5_wrong_5 0 rfl rfl)
theorem dX5_wrong_136 : decode cX5_wrong 136 = .ok (.imul, 1) := dk_104 (dk_at dksX5_wrong_5 3 rfl rfl)
theorem dX5_wrong_137 : decode cX5_wrong 137 = .ok (.iadd, 1) := dk_96 (dk_at dksX5_wrong_5 4 rfl rfl)
theorem dX5_wrong_138 : decode cX5_wrong 138 = .ok (.aload_n 0, 1) := dk_42 (dk_at dksX5_wrong_5 5 rfl rfl)
theorem dX5_wrong_139 : decode cX5_wrong 139 = .ok (.getfield 7, 3) := dk_180 0 7 (dk_at dksX5_wrong_5 6 rfl rfl)
theorem dX5_wrong_142 : decode cX5_wrong 142 = .ok (.bipush 50, 2) := dk_16 50 (dk_at dksX5_wrong_5 9 rfl rfl)
theorem dX5_wrong_144 : decode cX5_wrong 144 = .ok (.iconst 2, 1) := dk_5 (dk_at dksX5_wrong_5 11 rfl rfl)
theorem dX5_wrong_145 : decode cX5_wrong 145 = .ok (.aload_n 0, 1) := dk_42 (dk_at dksX5_wrong_5 12 rfl rfl)
theorem dX5_wrong_146 : decode cX5_wrong 146 = .ok (.getfield 138, 3) := dk_180 0 138 (dk_at dksX5_wrong_5 13 rfl rfl)
theorem dX5_wrong_149 : decode cX5_wrong 149 = .ok (.imul, 1) := dk_104 (dk_at dksX5_wrong_5 16 rfl rfl)
theorem dX5_wrong_150 : decode cX5_wrong 150 = .ok (.iadd, 1) := dk_96 (dk_at dksX5_wrong_5 17 rfl rfl)
theorem dX5_wrong_151 : decode cX5_wrong 151 = .ok (.iaload, 1) := dk_46 (dk_at dksX5_wrong_5 18 rfl rfl)
theorem dX5_wrong_152 : decode cX5_wrong 152 = .ok (.ldc 25, 2) := dk_18 25 (dk_at dksX5_wrong_5 19 rfl rfl)
theorem dX5_wrong_154 : decode cX5_wrong 154 = .ok (.if_icmp .eq 7, 3) := dk_159 0 7 (dk_at dksX5_wrong_5 21 rfl rfl)
theorem dX5_wrong_157 : decode cX5_wrong 157 = .ok (.iconst 1, 1) := dk_4 (dk_at dksX5_wrong_6 0 rfl rfl)
theorem dX5_wrong_158 : decode cX5_wrong 158 = .ok (.goto 4, 3) := dk_167 0 4 (dk_at dksX5_wrong_6 1 rfl rfl)
theorem dX5_wrong_161 : decode cX5_wrong 161 = .ok (.iconst 0, 1) := dk_3 (dk_at dksX5_wrong_6 4 rfl rfl)
theorem dX5_wrong_162 : decode cX5_wrong 162 = .ok (.invokevirtual 89, 3) := dk_182 0 89 (dk_at dksX5_wrong_6 5 rfl rfl)
theorem dX5_wrong_165 : decode cX5_wrong 165 = .ok (.ireturn, 1) := dk_172 (dk_at dksX5_wrong_6 8 rfl rfl)
theorem dX5_wrong_166 : decode cX5_wrong 166 = .ok (.aload_n 0, 1) := dk_42 (dk_at dksX5_wrong_6 9 rfl rfl)
theorem dX5_wrong_167 : decode cX5_wrong 167 = .ok (.aload_n 0, 1) := dk_42 (dk_at dksX5_wrong_6 10 rfl rfl)
theorem dX5_wrong_168 : decode cX5_wrong 168 = .ok (.getfield 138, 3) := dk_180 0 138 (dk_at dksX5_wrong_6 11 rfl rfl)
theorem dX5_wrong_171 : decode cX5_wrong 171 = .ok (.aload_n 0, 1) := dk_42 (dk_at dksX5_wrong_6 14 rfl rfl)
theorem dX5_wrong_172 : decode cX5_wrong 172 = .ok (.getfield 144, 3) := dk_180 0 144 (dk_at dksX5_wrong_6 15 rfl rfl)
theorem dX5_wrong_175 : decode cX5_wrong 175 = .ok (.invokevirtual 103, 3) := dk_182 0 103 (dk_at dksX5_wrong_6 18 rfl rfl)
theorem dX5_wrong_178 : decode cX5_wrong 178 = .ok (.ireturn, 1) := dk_172 (dk_at dksX5_wrong_6 21 rfl rfl)
theorem dX5_wrong_179 : decode cX5_wrong 179 = .ok (.aload_n 0, 1) := dk_42 (dk_at dksX5_wrong_6 22 rfl rfl)
theorem dX5_wrong_180 : decode cX5_wrong 180 = .ok (.aload_n 0, 1) := dk_42 (dk_at dksX5_wrong_6 23 rfl rfl)
theorem dX5_wrong_181 : decode cX5_wrong 181 = .ok (.getfield 7, 3) := dk_180 0 7 (dk_at dksX5_wrong_7 0 rfl rfl)
theorem dX5_wrong_184 : decode cX5_wrong 184 = .ok (.bipush 54, 2) := dk_16 54 (dk_at dksX5_wrong_7 3 rfl rfl)
theorem dX5_wrong_186 : decode cX5_wrong 186 = .ok (.iaload, 1) := dk_46 (dk_at dksX5_wrong_7 5 rfl rfl)
theorem dX5_wrong_187 : decode cX5_wrong 187 = .ok (.invokevirtual 112, 3) := dk_182 0 112 (dk_at dksX5_wrong_7 6 rfl rfl)
theorem dX5_wrong_190 : decode cX5_wrong 190 = .ok (.ifCond .ne 7, 3) := dk_154 0 7 (dk_at dksX5_wrong_7 9 rfl rfl)
theorem dX5_wrong_193 : decode cX5_wrong 193 = .ok (.iconst 0, 1) := dk_3 (dk_at dksX5_wrong_7 12 rfl rfl)
theorem dX5_wrong_194 : decode cX5_wrong 194 = .ok (.goto 17, 3) := dk_167 0 17 (dk_at dksX5_wrong_7 13 rfl rfl)
theorem dX5_wrong_197 : decode cX5_wrong 197 = .ok (.ldc 115, 2) := dk_18 115 (dk_at dksX5_wrong_7 16 rfl rfl)
theorem dX5_wrong_199 : decode cX5_wrong 199 = .ok (.aload_n 0, 1) := dk_42 (dk_at dksX5_wrong_7 18 rfl rfl)
theorem dX5_wrong_200 : decode cX5_wrong 200 = .ok (.aload_n 0, 1) := dk_42 (dk_at dksX5_wrong_7 19 rfl rfl)
theorem dX5_wrong_201 : decode cX5_wrong 201 = .ok (.getfield 7, 3) := dk_180 0 7 (dk_at dksX5_wrong_7 20 rfl rfl)
theorem dX5_wrong_204 : decode cX5_wrong 204 = .ok (.bipush 54, 2) := dk_16 54 (dk_at dksX5_wrong_8 0 rfl rfl)
theorem dX5_wrong_206 : decode cX5_wrong 206 = .ok (.iaload, 1) := dk_46 (dk_at dksX5_wrong_8 2 rfl rfl)
theorem dX5_wrong_207 : decode cX5_wrong 207 = .ok (.invokevirtual 112, 3) := dk_182 0 112 (dk_at dksX5_wrong_8 3 rfl rfl)
theorem dX5_wrong_210 : decode cX5_wrong 210 = .ok (.isub, 1) := dk_100 (dk_at dksX5_wrong_8 6 rfl rfl)
theorem dX5_wrong_211 : decode cX5_wrong 211 = .ok (.ireturn, 1) := dk_172 (dk_at dksX5_wrong_8 7 rfl rfl)
theorem dX5_wrong_212 : decode cX5_wrong 212 = .ok (.aload_n 0, 1) := dk_42 (dk_at dksX5_wrong_8 8 rfl rfl)
theorem dX5_wrong_213 : decode cX5_wrong 213 = .ok (.getfield 7, 3) := dk_180 0 7 (dk_at dksX5_wrong_8 9 rfl rfl)
theorem dX5_wrong_216 : decode cX5_wrong 216 = .ok (.bipush 55, 2) := dk_16 55 (dk_at dksX5_wrong_8 12 rfl rfl)
theorem dX5_wrong_218 : decode cX5_wrong 218 = .ok (.iaload, 1) := dk_46 (dk_at dksX5_wrong_8 14 rfl rfl)
theorem dX5_wrong_219 : decode cX5_wrong 219 = .ok (.sipush 9999, 3) := dk_17 39 15 (dk_at dksX5_wrong_8 15 rfl rfl)
theorem dX5_wrong_222 : decode cX5_wrong 222 = .ok (.if_icmp .ne 8, 3) := dk_160 0 8 (dk_at dksX5_wrong_8 18 rfl rfl)
theorem dX5_wrong_225 : decode cX5_wrong 225 = .ok (.ldc 49, 2) := dk_18 49 (dk_at dksX5_wrong_8 21 rfl rfl)
theorem dX5_wrong_227 : decode cX5_wrong 227 = .ok (.goto 4, 3) := dk_167 0 4 (dk_at dksX5_wrong_9 0 rfl rfl)
theorem dX5_wrong_230 : decode cX5_wrong 230 = .ok (.iconst 0, 1) := dk_3 (dk_at dksX5_wrong_9 3 rfl rfl)
theorem dX5_wrong_231 : decode cX5_wrong 231 = .ok (.ireturn, 1) := dk_172 (dk_at dksX5_wrong_9 4 rfl rfl)
abbrev cX5_putAside : ByteArray := prog_14_method_11_code
def yX5_putAside : MethodName := ⟨RX5, "putAside", "()V"⟩
def dkwX5_putAside_1 : List UInt8 := [167, 255, 235, 177]
abbrev dktX5_putAside_1 : List UInt8 := dkwX5_putAside_1 ++ []
def dkwX5_putAside_0 : List UInt8 := [3, 60, 27, 16, 108, 162, 0, 21, 42, 180, 0, 13, 27, 42, 180, 0, 7, 27, 46, 79, 132, 1, 1]
abbrev dktX5_putAside_0 : List UInt8 := dkwX5_putAside_0 ++ dktX5_putAside_1
theorem dksX5_putAside_0 : cX5_putAside.data.toList.drop 0 = dktX5_putAside_0 := by decide +kernel
theorem dksX5_putAside_1 : cX5_putAside.data.toList.drop 23 = dktX5_putAside_1 := dk_seg dksX5_putAside_0 23 rfl rfl
theorem dX5_putAside_0 : decode cX5_putAside 0 = .ok (.iconst 0, 1) := dk_3 (dk_at dksX5_putAside_0 0 rfl rfl)
theorem dX5_putAside_1 : decode cX5_putAside 1 = .ok (.istore_n 1, 1) := dk_60 (dk_at dksX5_putAside_0 1 rfl rfl)
theorem dX5_putAside_2 : decode cX5_putAside 2 = .ok (.iload_n 1, 1) := dk_27 (dk_at dksX5_putAside_0 2 rfl rfl)
theorem dX5_putAside_3 : decode cX5_putAside 3 = .ok (.bipush 108, 2) := dk_16 108 (dk_at dksX5_putAside_0 3 rfl rfl)
theorem dX5_putAside_5 : decode cX5_putAside 5 = .ok (.if_icmp .ge 21, 3) := dk_162 0 21 (dk_at dksX5_putAside_0 5 rfl rfl)
theorem dX5_putAside_8 : decode cX5_putAside 8 = .ok (.aload_n 0, 1) := dk_42 (dk_at dksX5_putAside_0 8 rfl rfl)
theorem dX5_putAside_9 : decode cX5_putAside 9 = .ok (.getfield 13, 3) := dk_180 0 13 (dk_at dksX5_putAside_0 9 rfl rfl)
theorem dX5_putAside_12 : decode cX5_putAside 12 = .ok (.iload_n 1, 1) := dk_27 (dk_at dksX5_putAside_0 12 rfl rfl)
theorem dX5_putAside_13 : decode cX5_putAside 13 = .ok (.aload_n 0, 1) := dk_42 (dk_at dksX5_putAside_0 13 rfl rfl)
theorem dX5_putAside_14 : decode cX5_putAside 14 = .ok (.getfield 7, 3) := dk_180 0 7 (dk_at dksX5_putAside_0 14 rfl rfl)
theorem dX5_putAside_17 : decode cX5_putAside 17 = .ok (.iload_n 1, 1) := dk_27 (dk_at dksX5_putAside_0 17 rfl rfl)
theorem dX5_putAside_18 : decode cX5_putAside 18 = .ok (.iaload, 1) := dk_46 (dk_at dksX5_putAside_0 18 rfl rfl)
theorem dX5_putAside_19 : decode cX5_putAside 19 = .ok (.iastore, 1) := dk_79 (dk_at dksX5_putAside_0 19 rfl rfl)
theorem dX5_putAside_20 : decode cX5_putAside 20 = .ok (.iinc 1 1, 3) := dk_132 1 1 (dk_at dksX5_putAside_0 20 rfl rfl)
theorem dX5_putAside_23 : decode cX5_putAside 23 = .ok (.goto (-21), 3) := dk_167 255 235 (dk_at dksX5_putAside_1 0 rfl rfl)
theorem dX5_putAside_26 : decode cX5_putAside 26 = .ok (.return_, 1) := dk_177 (dk_at dksX5_putAside_1 3 rfl rfl)
abbrev cX5_putBack : ByteArray := prog_14_method_12_code
def yX5_putBack : MethodName := ⟨RX5, "putBack", "()V"⟩
def dkwX5_putBack_1 : List UInt8 := [167, 255, 235, 177]
abbrev dktX5_putBack_1 : List UInt8 := dkwX5_putBack_1 ++ []
def dkwX5_putBack_0 : List UInt8 := [3, 60, 27, 16, 108, 162, 0, 21, 42, 180, 0, 7, 27, 42, 180, 0, 13, 27, 46, 79, 132, 1, 1]
abbrev dktX5_putBack_0 : List UInt8 := dkwX5_putBack_0 ++ dktX5_putBack_1
theorem dksX5_putBack_0 : cX5_putBack.data.toList.drop 0 = dktX5_putBack_0 := by decide +kernel
theorem dksX5_putBack_1 : cX5_putBack.data.toList.drop 23 = dktX5_putBack_1 := dk_seg dksX5_putBack_0 23 rfl rfl
theorem dX5_putBack_0 : decode cX5_putBack 0 = .ok (.iconst 0, 1) := dk_3 (dk_at dksX5_putBack_0 0 rfl rfl)
theorem dX5_putBack_1 : decode cX5_putBack 1 = .ok (.istore_n 1, 1) := dk_60 (dk_at dksX5_putBack_0 1 rfl rfl)
theorem dX5_putBack_2 : decode cX5_putBack 2 = .ok (.iload_n 1, 1) := dk_27 (dk_at dksX5_putBack_0 2 rfl rfl)
theorem dX5_putBack_3 : decode cX5_putBack 3 = .ok (.bipush 108, 2) := dk_16 108 (dk_at dksX5_putBack_0 3 rfl rfl)
theorem dX5_putBack_5 : decode cX5_putBack 5 = .ok (.if_icmp .ge 21, 3) := dk_162 0 21 (dk_at dksX5_putBack_0 5 rfl rfl)
theorem dX5_putBack_8 : decode cX5_putBack 8 = .ok (.aload_n 0, 1) := dk_42 (dk_at dksX5_putBack_0 8 rfl rfl)
theorem dX5_putBack_9 : decode cX5_putBack 9 = .ok (.getfield 7, 3) := dk_180 0 7 (dk_at dksX5_putBack_0 9 rfl rfl)
theorem dX5_putBack_12 : decode cX5_putBack 12 = .ok (.iload_n 1, 1) := dk_27 (dk_at dksX5_putBack_0 12 rfl rfl)
theorem dX5_putBack_13 : decode cX5_putBack 13 = .ok (.aload_n 0, 1) := dk_42 (dk_at dksX5_putBack_0 13 rfl rfl)
theorem dX5_putBack_14 : decode cX5_putBack 14 = .ok (.getfield 13, 3) := dk_180 0 13 (dk_at dksX5_putBack_0 14 rfl rfl)
theorem dX5_putBack_17 : decode cX5_putBack 17 = .ok (.iload_n 1, 1) := dk_27 (dk_at dksX5_putBack_0 17 rfl rfl)
theorem dX5_putBack_18 : decode cX5_putBack 18 = .ok (.iaload, 1) := dk_46 (dk_at dksX5_putBack_0 18 rfl rfl)
theorem dX5_putBack_19 : decode cX5_putBack 19 = .ok (.iastore, 1) := dk_79 (dk_at dksX5_putBack_0 19 rfl rfl)
theorem dX5_putBack_20 : decode cX5_putBack 20 = .ok (.iinc 1 1, 3) := dk_132 1 1 (dk_at dksX5_putBack_0 20 rfl rfl)
theorem dX5_putBack_23 : decode cX5_putBack 23 = .ok (.goto (-21), 3) := dk_167 255 235 (dk_at dksX5_putBack_1 0 rfl rfl)
theorem dX5_putBack_26 : decode cX5_putBack 26 = .ok (.return_, 1) := dk_177 (dk_at dksX5_putBack_1 3 rfl rfl)
abbrev cX5_stopped : ByteArray := prog_14_method_47_code
def yX5_stopped : MethodName := ⟨RX5, "stopped", "(I)I"⟩
def dkwX5_stopped_1 : List UInt8 := [167, 0, 7, 42, 180, 0, 30, 172]
abbrev dktX5_stopped_1 : List UInt8 := dkwX5_stopped_1 ++ []
def dkwX5_stopped_0 : List UInt8 := [27, 3, 4, 184, 0, 37, 154, 0, 8, 18, 59, 167, 0, 18, 27, 154, 0, 10, 42, 180, 0, 26]
abbrev dktX5_stopped_0 : List UInt8 := dkwX5_stopped_0 ++ dktX5_stopped_1
theorem dksX5_stopped_0 : cX5_stopped.data.toList.drop 0 = dktX5_stopped_0 := by decide +kernel
theorem dksX5_stopped_1 : cX5_stopped.data.toList.drop 22 = dktX5_stopped_1 := dk_seg dksX5_stopped_0 22 rfl rfl
theorem dX5_stopped_0 : decode cX5_stopped 0 = .ok (.iload_n 1, 1) := dk_27 (dk_at dksX5_stopped_0 0 rfl rfl)
theorem dX5_stopped_1 : decode cX5_stopped 1 = .ok (.iconst 0, 1) := dk_3 (dk_at dksX5_stopped_0 1 rfl rfl)
theorem dX5_stopped_2 : decode cX5_stopped 2 = .ok (.iconst 1, 1) := dk_4 (dk_at dksX5_stopped_0 2 rfl rfl)
theorem dX5_stopped_3 : decode cX5_stopped 3 = .ok (.invokestatic 37, 3) := dk_184 0 37 (dk_at dksX5_stopped_0 3 rfl rfl)
theorem dX5_stopped_6 : decode cX5_stopped 6 = .ok (.ifCond .ne 8, 3) := dk_154 0 8 (dk_at dksX5_stopped_0 6 rfl rfl)
theorem dX5_stopped_9 : decode cX5_stopped 9 = .ok (.ldc 59, 2) := dk_18 59 (dk_at dksX5_stopped_0 9 rfl rfl)
theorem dX5_stopped_11 : decode cX5_stopped 11 = .ok (.goto 18, 3) := dk_167 0 18 (dk_at dksX5_stopped_0 11 rfl rfl)
theorem dX5_stopped_14 : decode cX5_stopped 14 = .ok (.iload_n 1, 1) := dk_27 (dk_at dksX5_stopped_0 14 rfl rfl)
theorem dX5_stopped_15 : decode cX5_stopped 15 = .ok (.ifCond .ne 10, 3) := dk_154 0 10 (dk_at dksX5_stopped_0 15 rfl rfl)
theorem dX5_stopped_18 : decode cX5_stopped 18 = .ok (.aload_n 0, 1) := dk_42 (dk_at dksX5_stopped_0 18 rfl rfl)
theorem dX5_stopped_19 : decode cX5_stopped 19 = .ok (.getfield 26, 3) := dk_180 0 26 (dk_at dksX5_stopped_0 19 rfl rfl)
theorem dX5_stopped_22 : decode cX5_stopped 22 = .ok (.goto 7, 3) := dk_167 0 7 (dk_at dksX5_stopped_1 0 rfl rfl)
theorem dX5_stopped_25 : decode cX5_stopped 25 = .ok (.aload_n 0, 1) := dk_42 (dk_at dksX5_stopped_1 3 rfl rfl)
theorem dX5_stopped_26 : decode cX5_stopped 26 = .ok (.getfield 30, 3) := dk_180 0 30 (dk_at dksX5_stopped_1 4 rfl rfl)
theorem dX5_stopped_29 : decode cX5_stopped 29 = .ok (.ireturn, 1) := dk_172 (dk_at dksX5_stopped_1 7 rfl rfl)
abbrev cX5_undo : ByteArray := prog_14_method_48_code
def yX5_undo : MethodName := ⟨RX5, "undo", "()I"⟩
def dkwX5_undo_2 : List UInt8 := [79, 132, 1, 1, 167, 255, 227, 42, 180, 0, 41, 172]
abbrev dktX5_undo_2 : List UInt8 := dkwX5_undo_2 ++ []
def dkwX5_undo_1 : List UInt8 := [16, 108, 162, 0, 29, 42, 180, 0, 7, 27, 42, 180, 0, 16, 16, 108, 42, 180, 0, 41, 104, 27, 96, 46]
abbrev dktX5_undo_1 : List UInt8 := dkwX5_undo_1 ++ dktX5_undo_2
def dkwX5_undo_0 : List UInt8 := [42, 180, 0, 41, 154, 0, 6, 18, 25, 172, 42, 89, 180, 0, 41, 4, 100, 181, 0, 41, 3, 60, 27]
abbrev dktX5_undo_0 : List UInt8 := dkwX5_undo_0 ++ dktX5_undo_1
theorem dksX5_undo_0 : cX5_undo.data.toList.drop 0 = dktX5_undo_0 := by decide +kernel
theorem dksX5_undo_1 : cX5_undo.data.toList.drop 23 = dktX5_undo_1 := dk_seg dksX5_undo_0 23 rfl rfl
theorem dksX5_undo_2 : cX5_undo.data.toList.drop 47 = dktX5_undo_2 := dk_seg dksX5_undo_1 24 rfl rfl
theorem dX5_undo_0 : decode cX5_undo 0 = .ok (.aload_n 0, 1) := dk_42 (dk_at dksX5_undo_0 0 rfl rfl)
theorem dX5_undo_1 : decode cX5_undo 1 = .ok (.getfield 41, 3) := dk_180 0 41 (dk_at dksX5_undo_0 1 rfl rfl)
theorem dX5_undo_4 : decode cX5_undo 4 = .ok (.ifCond .ne 6, 3) := dk_154 0 6 (dk_at dksX5_undo_0 4 rfl rfl)
theorem dX5_undo_7 : decode cX5_undo 7 = .ok (.ldc 25, 2) := dk_18 25 (dk_at dksX5_undo_0 7 rfl rfl)
theorem dX5_undo_9 : decode cX5_undo 9 = .ok (.ireturn, 1) := dk_172 (dk_at dksX5_undo_0 9 rfl rfl)
theorem dX5_undo_10 : decode cX5_undo 10 = .ok (.aload_n 0, 1) := dk_42 (dk_at dksX5_undo_0 10 rfl rfl)
theorem dX5_undo_11 : decode cX5_undo 11 = .ok (.dup, 1) := dk_89 (dk_at dksX5_undo_0 11 rfl rfl)
theorem dX5_undo_12 : decode cX5_undo 12 = .ok (.getfield 41, 3) := dk_180 0 41 (dk_at dksX5_undo_0 12 rfl rfl)
theorem dX5_undo_15 : decode cX5_undo 15 = .ok (.iconst 1, 1) := dk_4 (dk_at dksX5_undo_0 15 rfl rfl)
theorem dX5_undo_16 : decode cX5_undo 16 = .ok (.isub, 1) := dk_100 (dk_at dksX5_undo_0 16 rfl rfl)
theorem dX5_undo_17 : decode cX5_undo 17 = .ok (.putfield 41, 3) := dk_181 0 41 (dk_at dksX5_undo_0 17 rfl rfl)
theorem dX5_undo_20 : decode cX5_undo 20 = .ok (.iconst 0, 1) := dk_3 (dk_at dksX5_undo_0 20 rfl rfl)
theorem dX5_undo_21 : decode cX5_undo 21 = .ok (.istore_n 1, 1) := dk_60 (dk_at dksX5_undo_0 21 rfl rfl)
theorem dX5_undo_22 : decode cX5_undo 22 = .ok (.iload_n 1, 1) := dk_27 (dk_at dksX5_undo_0 22 rfl rfl)
theorem dX5_undo_23 : decode cX5_undo 23 = .ok (.bipush 108, 2) := dk_16 108 (dk_at dksX5_undo_1 0 rfl rfl)
theorem dX5_undo_25 : decode cX5_undo 25 = .ok (.if_icmp .ge 29, 3) := dk_162 0 29 (dk_at dksX5_undo_1 2 rfl rfl)
theorem dX5_undo_28 : decode cX5_undo 28 = .ok (.aload_n 0, 1) := dk_42 (dk_at dksX5_undo_1 5 rfl rfl)
theorem dX5_undo_29 : decode cX5_undo 29 = .ok (.getfield 7, 3) := dk_180 0 7 (dk_at dksX5_undo_1 6 rfl rfl)
theorem dX5_undo_32 : decode cX5_undo 32 = .ok (.iload_n 1, 1) := dk_27 (dk_at dksX5_undo_1 9 rfl rfl)
theorem dX5_undo_33 : decode cX5_undo 33 = .ok (.aload_n 0, 1) := dk_42 (dk_at dksX5_undo_1 10 rfl rfl)
theorem dX5_undo_34 : decode cX5_undo 34 = .ok (.getfield 16, 3) := dk_180 0 16 (dk_at dksX5_undo_1 11 rfl rfl)
theorem dX5_undo_37 : decode cX5_undo 37 = .ok (.bipush 108, 2) := dk_16 108 (dk_at dksX5_undo_1 14 rfl rfl)
theorem dX5_undo_39 : decode cX5_undo 39 = .ok (.aload_n 0, 1) := dk_42 (dk_at dksX5_undo_1 16 rfl rfl)
theorem dX5_undo_40 : decode cX5_undo 40 = .ok (.getfield 41, 3) := dk_180 0 41 (dk_at dksX5_undo_1 17 rfl rfl)
theorem dX5_undo_43 : decode cX5_undo 43 = .ok (.imul, 1) := dk_104 (dk_at dksX5_undo_1 20 rfl rfl)
theorem dX5_undo_44 : decode cX5_undo 44 = .ok (.iload_n 1, 1) := dk_27 (dk_at dksX5_undo_1 21 rfl rfl)
theorem dX5_undo_45 : decode cX5_undo 45 = .ok (.iadd, 1) := dk_96 (dk_at dksX5_undo_1 22 rfl rfl)
theorem dX5_undo_46 : decode cX5_undo 46 = .ok (.iaload, 1) := dk_46 (dk_at dksX5_undo_1 23 rfl rfl)
theorem dX5_undo_47 : decode cX5_undo 47 = .ok (.iastore, 1) := dk_79 (dk_at dksX5_undo_2 0 rfl rfl)
theorem dX5_undo_48 : decode cX5_undo 48 = .ok (.iinc 1 1, 3) := dk_132 1 1 (dk_at dksX5_undo_2 1 rfl rfl)
theorem dX5_undo_51 : decode cX5_undo 51 = .ok (.goto (-29), 3) := dk_167 255 227 (dk_at dksX5_undo_2 4 rfl rfl)
theorem dX5_undo_54 : decode cX5_undo 54 = .ok (.aload_n 0, 1) := dk_42 (dk_at dksX5_undo_2 7 rfl rfl)
theorem dX5_undo_55 : decode cX5_undo 55 = .ok (.getfield 41, 3) := dk_180 0 41 (dk_at dksX5_undo_2 8 rfl rfl)
theorem dX5_undo_58 : decode cX5_undo 58 = .ok (.ireturn, 1) := dk_172 (dk_at dksX5_undo_2 11 rfl rfl)
abbrev cX5_keep : ByteArray := prog_14_method_49_code
def yX5_keep : MethodName := ⟨RX5, "keep", "()I"⟩
def dkwX5_keep_1 : List UInt8 := [167, 255, 235, 42, 4, 181, 0, 170, 42, 180, 0, 7, 16, 55, 46, 172]
abbrev dktX5_keep_1 : List UInt8 := dkwX5_keep_1 ++ []
def dkwX5_keep_0 : List UInt8 := [3, 60, 27, 16, 108, 162, 0, 21, 42, 180, 0, 19, 27, 42, 180, 0, 7, 27, 46, 79, 132, 1, 1]
abbrev dktX5_keep_0 : List UInt8 := dkwX5_keep_0 ++ dktX5_keep_1
theorem dksX5_keep_0 : cX5_keep.data.toList.drop 0 = dktX5_keep_0 := by decide +kernel
theorem dksX5_keep_1 : cX5_keep.data.toList.drop 23 = dktX5_keep_1 := dk_seg dksX5_keep_0 23 rfl rfl
theorem dX5_keep_0 : decode cX5_keep 0 = .ok (.iconst 0, 1) := dk_3 (dk_at dksX5_keep_0 0 rfl rfl)
theorem dX5_keep_1 : decode cX5_keep 1 = .ok (.istore_n 1, 1) := dk_60 (dk_at dksX5_keep_0 1 rfl rfl)
theorem dX5_keep_2 : decode cX5_keep 2 = .ok (.iload_n 1, 1) := dk_27 (dk_at dksX5_keep_0 2 rfl rfl)
theorem dX5_keep_3 : decode cX5_keep 3 = .ok (.bipush 108, 2) := dk_16 108 (dk_at dksX5_keep_0 3 rfl rfl)
theorem dX5_keep_5 : decode cX5_keep 5 = .ok (.if_icmp .ge 21, 3) := dk_162 0 21 (dk_at dksX5_keep_0 5 rfl rfl)
theorem dX5_keep_8 : decode cX5_keep 8 = .ok (.aload_n 0, 1) := dk_42 (dk_at dksX5_keep_0 8 rfl rfl)
theorem dX5_keep_9 : decode cX5_keep 9 = .ok (.getfield 19, 3) := dk_180 0 19 (dk_at dksX5_keep_0 9 rfl rfl)
theorem dX5_keep_12 : decode cX5_keep 12 = .ok (.iload_n 1, 1) := dk_27 (dk_at dksX5_keep_0 12 rfl rfl)
theorem dX5_keep_13 : decode cX5_keep 13 = .ok (.aload_n 0, 1) := dk_42 (dk_at dksX5_keep_0 13 rfl rfl)
theorem dX5_keep_14 : decode cX5_keep 14 = .ok (.getfield 7, 3) := dk_180 0 7 (dk_at dksX5_keep_0 14 rfl rfl)
theorem dX5_keep_17 : decode cX5_keep 17 = .ok (.iload_n 1, 1) := dk_27 (dk_at dksX5_keep_0 17 rfl rfl)
theorem dX5_keep_18 : decode cX5_keep 18 = .ok (.iaload, 1) := dk_46 (dk_at dksX5_keep_0 18 rfl rfl)
theorem dX5_keep_19 : decode cX5_keep 19 = .ok (.iastore, 1) := dk_79 (dk_at dksX5_keep_0 19 rfl rfl)
theorem dX5_keep_20 : decode cX5_keep 20 = .ok (.iinc 1 1, 3) := dk_132 1 1 (dk_at dksX5_keep_0 20 rfl rfl)
theorem dX5_keep_23 : decode cX5_keep 23 = .ok (.goto (-21), 3) := dk_167 255 235 (dk_at dksX5_keep_1 0 rfl rfl)
theorem dX5_keep_26 : decode cX5_keep 26 = .ok (.aload_n 0, 1) := dk_42 (dk_at dksX5_keep_1 3 rfl rfl)
theorem dX5_keep_27 : decode cX5_keep 27 = .ok (.iconst 1, 1) := dk_4 (dk_at dksX5_keep_1 4 rfl rfl)
theorem dX5_keep_28 : decode cX5_keep 28 = .ok (.putfield 170, 3) := dk_181 0 170 (dk_at dksX5_keep_1 5 rfl rfl)
theorem dX5_keep_31 : decode cX5_keep 31 = .ok (.aload_n 0, 1) := dk_42 (dk_at dksX5_keep_1 8 rfl rfl)
theorem dX5_keep_32 : decode cX5_keep 32 = .ok (.getfield 7, 3) := dk_180 0 7 (dk_at dksX5_keep_1 9 rfl rfl)
theorem dX5_keep_35 : decode cX5_keep 35 = .ok (.bipush 55, 2) := dk_16 55 (dk_at dksX5_keep_1 12 rfl rfl)
theorem dX5_keep_37 : decode cX5_keep 37 = .ok (.iaload, 1) := dk_46 (dk_at dksX5_keep_1 14 rfl rfl)
theorem dX5_keep_38 : decode cX5_keep 38 = .ok (.ireturn, 1) := dk_172 (dk_at dksX5_keep_1 15 rfl rfl)
abbrev cX5_restore : ByteArray := prog_14_method_50_code
def yX5_restore : MethodName := ⟨RX5, "restore", "()I"⟩
def dkwX5_restore_2 : List UInt8 := [172]
abbrev dktX5_restore_2 : List UInt8 := dkwX5_restore_2 ++ []
def dkwX5_restore_1 : List UInt8 := [180, 0, 7, 27, 42, 180, 0, 19, 27, 46, 79, 132, 1, 1, 167, 255, 235, 42, 180, 0, 7, 16, 55, 46]
abbrev dktX5_restore_1 : List UInt8 := dkwX5_restore_1 ++ dktX5_restore_2
def dkwX5_restore_0 : List UInt8 := [42, 180, 0, 170, 154, 0, 6, 18, 25, 172, 42, 182, 0, 83, 3, 60, 27, 16, 108, 162, 0, 21, 42]
abbrev dktX5_restore_0 : List UInt8 := dkwX5_restore_0 ++ dktX5_restore_1
theorem dksX5_restore_0 : cX5_restore.data.toList.drop 0 = dktX5_restore_0 := by decide +kernel
theorem dksX5_restore_1 : cX5_restore.data.toList.drop 23 = dktX5_restore_1 := dk_seg dksX5_restore_0 23 rfl rfl
theorem dksX5_restore_2 : cX5_restore.data.toList.drop 47 = dktX5_restore_2 := dk_seg dksX5_restore_1 24 rfl rfl
theorem dX5_restore_0 : decode cX5_restore 0 = .ok (.aload_n 0, 1) := dk_42 (dk_at dksX5_restore_0 0 rfl rfl)
theorem dX5_restore_1 : decode cX5_restore 1 = .ok (.getfield 170, 3) := dk_180 0 170 (dk_at dksX5_restore_0 1 rfl rfl)
theorem dX5_restore_4 : decode cX5_restore 4 = .ok (.ifCond .ne 6, 3) := dk_154 0 6 (dk_at dksX5_restore_0 4 rfl rfl)
theorem dX5_restore_7 : decode cX5_restore 7 = .ok (.ldc 25, 2) := dk_18 25 (dk_at dksX5_restore_0 7 rfl rfl)
theorem dX5_restore_9 : decode cX5_restore 9 = .ok (.ireturn, 1) := dk_172 (dk_at dksX5_restore_0 9 rfl rfl)
theorem dX5_restore_10 : decode cX5_restore 10 = .ok (.aload_n 0, 1) := dk_42 (dk_at dksX5_restore_0 10 rfl rfl)
theorem dX5_restore_11 : decode cX5_restore 11 = .ok (.invokevirtual 83, 3) := dk_182 0 83 (dk_at dksX5_restore_0 11 rfl rfl)
theorem dX5_restore_14 : decode cX5_restore 14 = .ok (.iconst 0, 1) := dk_3 (dk_at dksX5_restore_0 14 rfl rfl)
theorem dX5_restore_15 : decode cX5_restore 15 = .ok (.istore_n 1, 1) := dk_60 (dk_at dksX5_restore_0 15 rfl rfl)
theorem dX5_restore_16 : decode cX5_restore 16 = .ok (.iload_n 1, 1) := dk_27 (dk_at dksX5_restore_0 16 rfl rfl)
theorem dX5_restore_17 : decode cX5_restore 17 = .ok (.bipush 108, 2) := dk_16 108 (dk_at dksX5_restore_0 17 rfl rfl)
theorem dX5_restore_19 : decode cX5_restore 19 = .ok (.if_icmp .ge 21, 3) := dk_162 0 21 (dk_at dksX5_restore_0 19 rfl rfl)
theorem dX5_restore_22 : decode cX5_restore 22 = .ok (.aload_n 0, 1) := dk_42 (dk_at dksX5_restore_0 22 rfl rfl)
theorem dX5_restore_23 : decode cX5_restore 23 = .ok (.getfield 7, 3) := dk_180 0 7 (dk_at dksX5_restore_1 0 rfl rfl)
theorem dX5_restore_26 : decode cX5_restore 26 = .ok (.iload_n 1, 1) := dk_27 (dk_at dksX5_restore_1 3 rfl rfl)
theorem dX5_restore_27 : decode cX5_restore 27 = .ok (.aload_n 0, 1) := dk_42 (dk_at dksX5_restore_1 4 rfl rfl)
theorem dX5_restore_28 : decode cX5_restore 28 = .ok (.getfield 19, 3) := dk_180 0 19 (dk_at dksX5_restore_1 5 rfl rfl)
theorem dX5_restore_31 : decode cX5_restore 31 = .ok (.iload_n 1, 1) := dk_27 (dk_at dksX5_restore_1 8 rfl rfl)
theorem dX5_restore_32 : decode cX5_restore 32 = .ok (.iaload, 1) := dk_46 (dk_at dksX5_restore_1 9 rfl rfl)
theorem dX5_restore_33 : decode cX5_restore 33 = .ok (.iastore, 1) := dk_79 (dk_at dksX5_restore_1 10 rfl rfl)
theorem dX5_restore_34 : decode cX5_restore 34 = .ok (.iinc 1 1, 3) := dk_132 1 1 (dk_at dksX5_restore_1 11 rfl rfl)
theorem dX5_restore_37 : decode cX5_restore 37 = .ok (.goto (-21), 3) := dk_167 255 235 (dk_at dksX5_restore_1 14 rfl rfl)
theorem dX5_restore_40 : decode cX5_restore 40 = .ok (.aload_n 0, 1) := dk_42 (dk_at dksX5_restore_1 17 rfl rfl)
theorem dX5_restore_41 : decode cX5_restore 41 = .ok (.getfield 7, 3) := dk_180 0 7 (dk_at dksX5_restore_1 18 rfl rfl)
theorem dX5_restore_44 : decode cX5_restore 44 = .ok (.bipush 55, 2) := dk_16 55 (dk_at dksX5_restore_1 21 rfl rfl)
theorem dX5_restore_46 : decode cX5_restore 46 = .ok (.iaload, 1) := dk_46 (dk_at dksX5_restore_1 23 rfl rfl)
theorem dX5_restore_47 : decode cX5_restore 47 = .ok (.ireturn, 1) := dk_172 (dk_at dksX5_restore_2 0 rfl rfl)
abbrev cX5_reel : ByteArray := prog_14_method_52_code
def yX5_reel : MethodName := ⟨RX5, "reel", "(II)I"⟩
def dkwX5_reel_2 : List UInt8 := [172]
abbrev dktX5_reel_2 : List UInt8 := dkwX5_reel_2 ++ []
def dkwX5_reel_1 : List UInt8 := [27, 28, 184, 0, 33, 46, 167, 0, 18, 28, 8, 160, 0, 11, 42, 27, 182, 0, 173, 167, 0, 5, 18, 59]
abbrev dktX5_reel_1 : List UInt8 := dkwX5_reel_1 ++ dktX5_reel_2
def dkwX5_reel_0 : List UInt8 := [42, 27, 182, 0, 96, 154, 0, 6, 18, 58, 172, 28, 3, 7, 184, 0, 37, 153, 0, 16, 42, 180, 0, 7]
abbrev dktX5_reel_0 : List UInt8 := dkwX5_reel_0 ++ dktX5_reel_1
theorem dksX5_reel_0 : cX5_reel.data.toList.drop 0 = dktX5_reel_0 := by decide +kernel
theorem dksX5_reel_1 : cX5_reel.data.toList.drop 24 = dktX5_reel_1 := dk_seg dksX5_reel_0 24 rfl rfl
theorem dksX5_reel_2 : cX5_reel.data.toList.drop 48 = dktX5_reel_2 := dk_seg dksX5_reel_1 24 rfl rfl
theorem dX5_reel_0 : decode cX5_reel 0 = .ok (.aload_n 0, 1) := dk_42 (dk_at dksX5_reel_0 0 rfl rfl)
theorem dX5_reel_1 : decode cX5_reel 1 = .ok (.iload_n 1, 1) := dk_27 (dk_at dksX5_reel_0 1 rfl rfl)
theorem dX5_reel_2 : decode cX5_reel 2 = .ok (.invokevirtual 96, 3) := dk_182 0 96 (dk_at dksX5_reel_0 2 rfl rfl)
theorem dX5_reel_5 : decode cX5_reel 5 = .ok (.ifCond .ne 6, 3) := dk_154 0 6 (dk_at dksX5_reel_0 5 rfl rfl)
theorem dX5_reel_8 : decode cX5_reel 8 = .ok (.ldc 58, 2) := dk_18 58 (dk_at dksX5_reel_0 8 rfl rfl)
theorem dX5_reel_10 : decode cX5_reel 10 = .ok (.ireturn, 1) := dk_172 (dk_at dksX5_reel_0 10 rfl rfl)
theorem dX5_reel_11 : decode cX5_reel 11 = .ok (.iload_n 2, 1) := dk_28 (dk_at dksX5_reel_0 11 rfl rfl)
theorem dX5_reel_12 : decode cX5_reel 12 = .ok (.iconst 0, 1) := dk_3 (dk_at dksX5_reel_0 12 rfl rfl)
theorem dX5_reel_13 : decode cX5_reel 13 = .ok (.iconst 4, 1) := dk_7 (dk_at dksX5_reel_0 13 rfl rfl)
theorem dX5_reel_14 : decode cX5_reel 14 = .ok (.invokestatic 37, 3) := dk_184 0 37 (dk_at dksX5_reel_0 14 rfl rfl)
theorem dX5_reel_17 : decode cX5_reel 17 = .ok (.ifCond .eq 16, 3) := dk_153 0 16 (dk_at dksX5_reel_0 17 rfl rfl)
theorem dX5_reel_20 : decode cX5_reel 20 = .ok (.aload_n 0, 1) := dk_42 (dk_at dksX5_reel_0 20 rfl rfl)
theorem dX5_reel_21 : decode cX5_reel 21 = .ok (.getfield 7, 3) := dk_180 0 7 (dk_at dksX5_reel_0 21 rfl rfl)
theorem dX5_reel_24 : decode cX5_reel 24 = .ok (.iload_n 1, 1) := dk_27 (dk_at dksX5_reel_1 0 rfl rfl)
theorem dX5_reel_25 : decode cX5_reel 25 = .ok (.iload_n 2, 1) := dk_28 (dk_at dksX5_reel_1 1 rfl rfl)
theorem dX5_reel_26 : decode cX5_reel 26 = .ok (.invokestatic 33, 3) := dk_184 0 33 (dk_at dksX5_reel_1 2 rfl rfl)
theorem dX5_reel_29 : decode cX5_reel 29 = .ok (.iaload, 1) := dk_46 (dk_at dksX5_reel_1 5 rfl rfl)
theorem dX5_reel_30 : decode cX5_reel 30 = .ok (.goto 18, 3) := dk_167 0 18 (dk_at dksX5_reel_1 6 rfl rfl)
theorem dX5_reel_33 : decode cX5_reel 33 = .ok (.iload_n 2, 1) := dk_28 (dk_at dksX5_reel_1 9 rfl rfl)
theorem dX5_reel_34 : decode cX5_reel 34 = .ok (.iconst 5, 1) := dk_8 (dk_at dksX5_reel_1 10 rfl rfl)
theorem dX5_reel_35 : decode cX5_reel 35 = .ok (.if_icmp .ne 11, 3) := dk_160 0 11 (dk_at dksX5_reel_1 11 rfl rfl)
theorem dX5_reel_38 : decode cX5_reel 38 = .ok (.aload_n 0, 1) := dk_42 (dk_at dksX5_reel_1 14 rfl rfl)
theorem dX5_reel_39 : decode cX5_reel 39 = .ok (.iload_n 1, 1) := dk_27 (dk_at dksX5_reel_1 15 rfl rfl)
theorem dX5_reel_40 : decode cX5_reel 40 = .ok (.invokevirtual 173, 3) := dk_182 0 173 (dk_at dksX5_reel_1 16 rfl rfl)
theorem dX5_reel_43 : decode cX5_reel 43 = .ok (.goto 5, 3) := dk_167 0 5 (dk_at dksX5_reel_1 19 rfl rfl)
theorem dX5_reel_46 : decode cX5_reel 46 = .ok (.ldc 59, 2) := dk_18 59 (dk_at dksX5_reel_1 22 rfl rfl)
theorem dX5_reel_48 : decode cX5_reel 48 = .ok (.ireturn, 1) := dk_172 (dk_at dksX5_reel_2 0 rfl rfl)
abbrev cX5_bears : ByteArray := prog_14_method_51_code
def yX5_bears : MethodName := ⟨RX5, "bears", "(I)I"⟩
def dkwX5_bears_2 : List UInt8 := [132, 3, 255, 167, 255, 244, 21, 4, 172]
abbrev dktX5_bears_2 : List UInt8 := dkwX5_bears_2 ++ []
def dkwX5_bears_1 : List UInt8 := [54, 4, 29, 6, 161, 0, 24, 132, 4, 1, 132, 2, 5, 28, 16, 40, 161, 255, 242, 132, 2, 236]
abbrev dktX5_bears_1 : List UInt8 := dkwX5_bears_1 ++ dktX5_bears_2
def dkwX5_bears_0 : List UInt8 := [42, 180, 0, 7, 27, 5, 184, 0, 33, 46, 61, 42, 180, 0, 7, 27, 4, 184, 0, 33, 46, 62, 3]
abbrev dktX5_bears_0 : List UInt8 := dkwX5_bears_0 ++ dktX5_bears_1
theorem dksX5_bears_0 : cX5_bears.data.toList.drop 0 = dktX5_bears_0 := by decide +kernel
theorem dksX5_bears_1 : cX5_bears.data.toList.drop 23 = dktX5_bears_1 := dk_seg dksX5_bears_0 23 rfl rfl
theorem dksX5_bears_2 : cX5_bears.data.toList.drop 45 = dktX5_bears_2 := dk_seg dksX5_bears_1 22 rfl rfl
theorem dX5_bears_0 : decode cX5_bears 0 = .ok (.aload_n 0, 1) := dk_42 (dk_at dksX5_bears_0 0 rfl rfl)
theorem dX5_bears_1 : decode cX5_bears 1 = .ok (.getfield 7, 3) := dk_180 0 7 (dk_at dksX5_bears_0 1 rfl rfl)
theorem dX5_bears_4 : decode cX5_bears 4 = .ok (.iload_n 1, 1) := dk_27 (dk_at dksX5_bears_0 4 rfl rfl)
theorem dX5_bears_5 : decode cX5_bears 5 = .ok (.iconst 2, 1) := dk_5 (dk_at dksX5_bears_0 5 rfl rfl)
theorem dX5_bears_6 : decode cX5_bears 6 = .ok (.invokestatic 33, 3) := dk_184 0 33 (dk_at dksX5_bears_0 6 rfl rfl)
theorem dX5_bears_9 : decode cX5_bears 9 = .ok (.iaload, 1) := dk_46 (dk_at dksX5_bears_0 9 rfl rfl)
theorem dX5_bears_10 : decode cX5_bears 10 = .ok (.istore_n 2, 1) := dk_61 (dk_at dksX5_bears_0 10 rfl rfl)
theorem dX5_bears_11 : decode cX5_bears 11 = .ok (.aload_n 0, 1) := dk_42 (dk_at dksX5_bears_0 11 rfl rfl)
theorem dX5_bears_12 : decode cX5_bears 12 = .ok (.getfield 7, 3) := dk_180 0 7 (dk_at dksX5_bears_0 12 rfl rfl)
theorem dX5_bears_15 : decode cX5_bears 15 = .ok (.iload_n 1, 1) := dk_27 (dk_at dksX5_bears_0 15 rfl rfl)
theorem dX5_bears_16 : decode cX5_bears 16 = .ok (.iconst 1, 1) := dk_4 (dk_at dksX5_bears_0 16 rfl rfl)
theorem dX5_bears_17 : decode cX5_bears 17 = .ok (.invokestatic 33, 3) := dk_184 0 33 (dk_at dksX5_bears_0 17 rfl rfl)
theorem dX5_bears_20 : decode cX5_bears 20 = .ok (.iaload, 1) := dk_46 (dk_at dksX5_bears_0 20 rfl rfl)
theorem dX5_bears_21 : decode cX5_bears 21 = .ok (.istore_n 3, 1) := dk_62 (dk_at dksX5_bears_0 21 rfl rfl)
theorem dX5_bears_22 : decode cX5_bears 22 = .ok (.iconst 0, 1) := dk_3 (dk_at dksX5_bears_0 22 rfl rfl)
theorem dX5_bears_23 : decode cX5_bears 23 = .ok (.istore 4, 2) := dk_54 4 (dk_at dksX5_bears_1 0 rfl rfl)
theorem dX5_bears_25 : decode cX5_bears 25 = .ok (.iload_n 3, 1) := dk_29 (dk_at dksX5_bears_1 2 rfl rfl)
theorem dX5_bears_26 : decode cX5_bears 26 = .ok (.iconst 3, 1) := dk_6 (dk_at dksX5_bears_1 3 rfl rfl)
theorem dX5_bears_27 : decode cX5_bears 27 = .ok (.if_icmp .lt 24, 3) := dk_161 0 24 (dk_at dksX5_bears_1 4 rfl rfl)
theorem dX5_bears_30 : decode cX5_bears 30 = .ok (.iinc 4 1, 3) := dk_132 4 1 (dk_at dksX5_bears_1 7 rfl rfl)
theorem dX5_bears_33 : decode cX5_bears 33 = .ok (.iinc 2 5, 3) := dk_132 2 5 (dk_at dksX5_bears_1 10 rfl rfl)
theorem dX5_bears_36 : decode cX5_bears 36 = .ok (.iload_n 2, 1) := dk_28 (dk_at dksX5_bears_1 13 rfl rfl)
theorem dX5_bears_37 : decode cX5_bears 37 = .ok (.bipush 40, 2) := dk_16 40 (dk_at dksX5_bears_1 14 rfl rfl)
theorem dX5_bears_39 : decode cX5_bears 39 = .ok (.if_icmp .lt (-14), 3) := dk_161 255 242 (dk_at dksX5_bears_1 16 rfl rfl)
theorem dX5_bears_42 : decode cX5_bears 42 = .ok (.iinc 2 (-20), 3) := dk_132 2 236 (dk_at dksX5_bears_1 19 rfl rfl)
theorem dX5_bears_45 : decode cX5_bears 45 = .ok (.iinc 3 (-1), 3) := dk_132 3 255 (dk_at dksX5_bears_2 0 rfl rfl)
theorem dX5_bears_48 : decode cX5_bears 48 = .ok (.goto (-12), 3) := dk_167 255 244 (dk_at dksX5_bears_2 3 rfl rfl)
theorem dX5_bears_51 : decode cX5_bears 51 = .ok (.iload 4, 2) := dk_21 4 (dk_at dksX5_bears_2 6 rfl rfl)
theorem dX5_bears_53 : decode cX5_bears 53 = .ok (.ireturn, 1) := dk_172 (dk_at dksX5_bears_2 8 rfl rfl)
abbrev cX5_generator : ByteArray := prog_14_method_53_code
def yX5_generator : MethodName := ⟨RX5, "generator", "(II)I"⟩
def dkwX5_generator_1 : List UInt8 := [180, 0, 7, 16, 50, 5, 27, 104, 96, 28, 96, 46, 167, 0, 5, 18, 59, 172]
abbrev dktX5_generator_1 : List UInt8 := dkwX5_generator_1 ++ []
def dkwX5_generator_0 : List UInt8 := [27, 184, 0, 54, 154, 0, 8, 18, 58, 167, 0, 30, 28, 3, 4, 184, 0, 37, 153, 0, 19, 42]
abbrev dktX5_generator_0 : List UInt8 := dkwX5_generator_0 ++ dktX5_generator_1
theorem dksX5_generator_0 : cX5_generator.data.toList.drop 0 = dktX5_generator_0 := by decide +kernel
theorem dksX5_generator_1 : cX5_generator.data.toList.drop 22 = dktX5_generator_1 := dk_seg dksX5_generator_0 22 rfl rfl
theorem dX5_generator_0 : decode cX5_generator 0 = .ok (.iload_n 1, 1) := dk_27 (dk_at dksX5_generator_0 0 rfl rfl)
theorem dX5_generator_1 : decode cX5_generator 1 = .ok (.invokestatic 54, 3) := dk_184 0 54 (dk_at dksX5_generator_0 1 rfl rfl)
theorem dX5_generator_4 : decode cX5_generator 4 = .ok (.ifCond .ne 8, 3) := dk_154 0 8 (dk_at dksX5_generator_0 4 rfl rfl)
theorem dX5_generator_7 : decode cX5_generator 7 = .ok (.ldc 58, 2) := dk_18 58 (dk_at dksX5_generator_0 7 rfl rfl)
theorem dX5_generator_9 : decode cX5_generator 9 = .ok (.goto 30, 3) := dk_167 0 30 (dk_at dksX5_generator_0 9 rfl rfl)
theorem dX5_generator_12 : decode cX5_generator 12 = .ok (.iload_n 2, 1) := dk_28 (dk_at dksX5_generator_0 12 rfl rfl)
theorem dX5_generator_13 : decode cX5_generator 13 = .ok (.iconst 0, 1) := dk_3 (dk_at dksX5_generator_0 13 rfl rfl)
theorem dX5_generator_14 : decode cX5_generator 14 = .ok (.iconst 1, 1) := dk_4 (dk_at dksX5_generator_0 14 rfl rfl)
theorem dX5_generator_15 : decode cX5_generator 15 = .ok (.invokestatic 37, 3) := dk_184 0 37 (dk_at dksX5_generator_0 15 rfl rfl)
theorem dX5_generator_18 : decode cX5_generator 18 = .ok (.ifCond .eq 19, 3) := dk_153 0 19 (dk_at dksX5_generator_0 18 rfl rfl)
theorem dX5_generator_21 : decode cX5_generator 21 = .ok (.aload_n 0, 1) := dk_42 (dk_at dksX5_generator_0 21 rfl rfl)
theorem dX5_generator_22 : decode cX5_generator 22 = .ok (.getfield 7, 3) := dk_180 0 7 (dk_at dksX5_generator_1 0 rfl rfl)
theorem dX5_generator_25 : decode cX5_generator 25 = .ok (.bipush 50, 2) := dk_16 50 (dk_at dksX5_generator_1 3 rfl rfl)
theorem dX5_generator_27 : decode cX5_generator 27 = .ok (.iconst 2, 1) := dk_5 (dk_at dksX5_generator_1 5 rfl rfl)
theorem dX5_generator_28 : decode cX5_generator 28 = .ok (.iload_n 1, 1) := dk_27 (dk_at dksX5_generator_1 6 rfl rfl)
theorem dX5_generator_29 : decode cX5_generator 29 = .ok (.imul, 1) := dk_104 (dk_at dksX5_generator_1 7 rfl rfl)
theorem dX5_generator_30 : decode cX5_generator 30 = .ok (.iadd, 1) := dk_96 (dk_at dksX5_generator_1 8 rfl rfl)
theorem dX5_generator_31 : decode cX5_generator 31 = .ok (.iload_n 2, 1) := dk_28 (dk_at dksX5_generator_1 9 rfl rfl)
theorem dX5_generator_32 : decode cX5_generator 32 = .ok (.iadd, 1) := dk_96 (dk_at dksX5_generator_1 10 rfl rfl)
theorem dX5_generator_33 : decode cX5_generator 33 = .ok (.iaload, 1) := dk_46 (dk_at dksX5_generator_1 11 rfl rfl)
theorem dX5_generator_34 : decode cX5_generator 34 = .ok (.goto 5, 3) := dk_167 0 5 (dk_at dksX5_generator_1 12 rfl rfl)
theorem dX5_generator_37 : decode cX5_generator 37 = .ok (.ldc 59, 2) := dk_18 59 (dk_at dksX5_generator_1 15 rfl rfl)
theorem dX5_generator_39 : decode cX5_generator 39 = .ok (.ireturn, 1) := dk_172 (dk_at dksX5_generator_1 17 rfl rfl)
abbrev cX5_barn : ByteArray := prog_14_method_54_code
def yX5_barn : MethodName := ⟨RX5, "barn", "(II)I"⟩
def dkwX5_barn_4 : List UInt8 := [180, 0, 7, 16, 67, 27, 96, 46, 172, 18, 59, 172]
abbrev dktX5_barn_4 : List UInt8 := dkwX5_barn_4 ++ []
def dkwX5_barn_3 : List UInt8 := [27, 182, 0, 69, 172, 42, 27, 182, 0, 112, 172, 42, 180, 0, 7, 16, 62, 27, 96, 46, 172, 42]
abbrev dktX5_barn_3 : List UInt8 := dkwX5_barn_3 ++ dktX5_barn_4
def dkwX5_barn_2 : List UInt8 := [27, 184, 0, 50, 172, 27, 184, 0, 66, 172, 27, 6, 112, 172, 42, 27, 28, 6, 100, 182, 0, 60, 172, 42]
abbrev dktX5_barn_2 : List UInt8 := dkwX5_barn_2 ++ dktX5_barn_3
def dkwX5_barn_1 : List UInt8 := [170, 0, 0, 0, 104, 0, 0, 0, 0, 0, 0, 0, 8, 0, 0, 0, 49, 0, 0, 0, 54, 0, 0, 0, 59, 0, 0, 0, 63, 0, 0, 0, 63, 0, 0, 0, 72, 0, 0, 0, 78, 0, 0, 0, 84, 0, 0, 0, 94]
abbrev dktX5_barn_1 : List UInt8 := dkwX5_barn_1 ++ dktX5_barn_2
def dkwX5_barn_0 : List UInt8 := [27, 184, 0, 80, 154, 0, 6, 18, 58, 172, 28]
abbrev dktX5_barn_0 : List UInt8 := dkwX5_barn_0 ++ dktX5_barn_1
theorem dksX5_barn_0 : cX5_barn.data.toList.drop 0 = dktX5_barn_0 := by decide +kernel
theorem dksX5_barn_1 : cX5_barn.data.toList.drop 11 = dktX5_barn_1 := dk_seg dksX5_barn_0 11 rfl rfl
theorem dksX5_barn_2 : cX5_barn.data.toList.drop 60 = dktX5_barn_2 := dk_seg dksX5_barn_1 49 rfl rfl
theorem dksX5_barn_3 : cX5_barn.data.toList.drop 84 = dktX5_barn_3 := dk_seg dksX5_barn_2 24 rfl rfl
theorem dksX5_barn_4 : cX5_barn.data.toList.drop 106 = dktX5_barn_4 := dk_seg dksX5_barn_3 22 rfl rfl
theorem dX5_barn_0 : decode cX5_barn 0 = .ok (.iload_n 1, 1) := dk_27 (dk_at dksX5_barn_0 0 rfl rfl)
theorem dX5_barn_1 : decode cX5_barn 1 = .ok (.invokestatic 80, 3) := dk_184 0 80 (dk_at dksX5_barn_0 1 rfl rfl)
theorem dX5_barn_4 : decode cX5_barn 4 = .ok (.ifCond .ne 6, 3) := dk_154 0 6 (dk_at dksX5_barn_0 4 rfl rfl)
theorem dX5_barn_7 : decode cX5_barn 7 = .ok (.ldc 58, 2) := dk_18 58 (dk_at dksX5_barn_0 7 rfl rfl)
theorem dX5_barn_9 : decode cX5_barn 9 = .ok (.ireturn, 1) := dk_172 (dk_at dksX5_barn_0 9 rfl rfl)
theorem dX5_barn_10 : decode cX5_barn 10 = .ok (.iload_n 2, 1) := dk_28 (dk_at dksX5_barn_0 10 rfl rfl)
theorem dX5_barn_11 : decode cX5_barn 11 = .ok (.tableswitch 104 0 8 #[49, 54, 59, 63, 63, 72, 78, 84, 94], 49) := by decide +kernel
theorem dX5_barn_60 : decode cX5_barn 60 = .ok (.iload_n 1, 1) := dk_27 (dk_at dksX5_barn_2 0 rfl rfl)
theorem dX5_barn_61 : decode cX5_barn 61 = .ok (.invokestatic 50, 3) := dk_184 0 50 (dk_at dksX5_barn_2 1 rfl rfl)
theorem dX5_barn_64 : decode cX5_barn 64 = .ok (.ireturn, 1) := dk_172 (dk_at dksX5_barn_2 4 rfl rfl)
theorem dX5_barn_65 : decode cX5_barn 65 = .ok (.iload_n 1, 1) := dk_27 (dk_at dksX5_barn_2 5 rfl rfl)
theorem dX5_barn_66 : decode cX5_barn 66 = .ok (.invokestatic 66, 3) := dk_184 0 66 (dk_at dksX5_barn_2 6 rfl rfl)
theorem dX5_barn_69 : decode cX5_barn 69 = .ok (.ireturn, 1) := dk_172 (dk_at dksX5_barn_2 9 rfl rfl)
theorem dX5_barn_70 : decode cX5_barn 70 = .ok (.iload_n 1, 1) := dk_27 (dk_at dksX5_barn_2 10 rfl rfl)
theorem dX5_barn_71 : decode cX5_barn 71 = .ok (.iconst 3, 1) := dk_6 (dk_at dksX5_barn_2 11 rfl rfl)
theorem dX5_barn_72 : decode cX5_barn 72 = .ok (.irem, 1) := dk_112 (dk_at dksX5_barn_2 12 rfl rfl)
theorem dX5_barn_73 : decode cX5_barn 73 = .ok (.ireturn, 1) := dk_172 (dk_at dksX5_barn_2 13 rfl rfl)
theorem dX5_barn_74 : decode cX5_barn 74 = .ok (.aload_n 0, 1) := dk_42 (dk_at dksX5_barn_2 14 rfl rfl)
theorem dX5_barn_75 : decode cX5_barn 75 = .ok (.iload_n 1, 1) := dk_27 (dk_at dksX5_barn_2 15 rfl rfl)
theorem dX5_barn_76 : decode cX5_barn 76 = .ok (.iload_n 2, 1) := dk_28 (dk_at dksX5_barn_2 16 rfl rfl)
theorem dX5_barn_77 : decode cX5_barn 77 = .ok (.iconst 3, 1) := dk_6 (dk_at dksX5_barn_2 17 rfl rfl)
theorem dX5_barn_78 : decode cX5_barn 78 = .ok (.isub, 1) := dk_100 (dk_at dksX5_barn_2 18 rfl rfl)
theorem dX5_barn_79 : decode cX5_barn 79 = .ok (.invokevirtual 60, 3) := dk_182 0 60 (dk_at dksX5_barn_2 19 rfl rfl)
theorem dX5_barn_82 : decode cX5_barn 82 = .ok (.ireturn, 1) := dk_172 (dk_at dksX5_barn_2 22 rfl rfl)
theorem dX5_barn_83 : decode cX5_barn 83 = .ok (.aload_n 0, 1) := dk_42 (dk_at dksX5_barn_2 23 rfl rfl)
theorem dX5_barn_84 : decode cX5_barn 84 = .ok (.iload_n 1, 1) := dk_27 (dk_at dksX5_barn_3 0 rfl rfl)
theorem dX5_barn_85 : decode cX5_barn 85 = .ok (.invokevirtual 69, 3) := dk_182 0 69 (dk_at dksX5_barn_3 1 rfl rfl)
theorem dX5_barn_88 : decode cX5_barn 88 = .ok (.ireturn, 1) := dk_172 (dk_at dksX5_barn_3 4 rfl rfl)
theorem dX5_barn_89 : decode cX5_barn 89 = .ok (.aload_n 0, 1) := dk_42 (dk_at dksX5_barn_3 5 rfl rfl)
theorem dX5_barn_90 : decode cX5_barn 90 = .ok (.iload_n 1, 1) := dk_27 (dk_at dksX5_barn_3 6 rfl rfl)
theorem dX5_barn_91 : decode cX5_barn 91 = .ok (.invokevirtual 112, 3) := dk_182 0 112 (dk_at dksX5_barn_3 7 rfl rfl)
theorem dX5_barn_94 : decode cX5_barn 94 = .ok (.ireturn, 1) := dk_172 (dk_at dksX5_barn_3 10 rfl rfl)
theorem dX5_barn_95 : decode cX5_barn 95 = .ok (.aload_n 0, 1) := dk_42 (dk_at dksX5_barn_3 11 rfl rfl)
theorem dX5_barn_96 : decode cX5_barn 96 = .ok (.getfield 7, 3) := dk_180 0 7 (dk_at dksX5_barn_3 12 rfl rfl)
theorem dX5_barn_99 : decode cX5_barn 99 = .ok (.bipush 62, 2) := dk_16 62 (dk_at dksX5_barn_3 15 rfl rfl)
theorem dX5_barn_101 : decode cX5_barn 101 = .ok (.iload_n 1, 1) := dk_27 (dk_at dksX5_barn_3 17 rfl rfl)
theorem dX5_barn_102 : decode cX5_barn 102 = .ok (.iadd, 1) := dk_96 (dk_at dksX5_barn_3 18 rfl rfl)
theorem dX5_barn_103 : decode cX5_barn 103 = .ok (.iaload, 1) := dk_46 (dk_at dksX5_barn_3 19 rfl rfl)
theorem dX5_barn_104 : decode cX5_barn 104 = .ok (.ireturn, 1) := dk_172 (dk_at dksX5_barn_3 20 rfl rfl)
theorem dX5_barn_105 : decode cX5_barn 105 = .ok (.aload_n 0, 1) := dk_42 (dk_at dksX5_barn_3 21 rfl rfl)
theorem dX5_barn_106 : decode cX5_barn 106 = .ok (.getfield 7, 3) := dk_180 0 7 (dk_at dksX5_barn_4 0 rfl rfl)
theorem dX5_barn_109 : decode cX5_barn 109 = .ok (.bipush 67, 2) := dk_16 67 (dk_at dksX5_barn_4 3 rfl rfl)
theorem dX5_barn_111 : decode cX5_barn 111 = .ok (.iload_n 1, 1) := dk_27 (dk_at dksX5_barn_4 5 rfl rfl)
theorem dX5_barn_112 : decode cX5_barn 112 = .ok (.iadd, 1) := dk_96 (dk_at dksX5_barn_4 6 rfl rfl)
theorem dX5_barn_113 : decode cX5_barn 113 = .ok (.iaload, 1) := dk_46 (dk_at dksX5_barn_4 7 rfl rfl)
theorem dX5_barn_114 : decode cX5_barn 114 = .ok (.ireturn, 1) := dk_172 (dk_at dksX5_barn_4 8 rfl rfl)
theorem dX5_barn_115 : decode cX5_barn 115 = .ok (.ldc 59, 2) := dk_18 59 (dk_at dksX5_barn_4 9 rfl rfl)
theorem dX5_barn_117 : decode cX5_barn 117 = .ok (.ireturn, 1) := dk_172 (dk_at dksX5_barn_4 11 rfl rfl)
abbrev cX5_bestBarn : ByteArray := prog_14_method_55_code
def yX5_bestBarn : MethodName := ⟨RX5, "bestBarn", "()I"⟩
def dkwX5_bestBarn_2 : List UInt8 := [167, 0, 4, 27, 60, 132, 2, 1, 167, 255, 205, 27, 172]
abbrev dktX5_bestBarn_2 : List UInt8 := dkwX5_bestBarn_2 ++ []
def dkwX5_bestBarn_1 : List UInt8 := [42, 28, 182, 0, 69, 42, 27, 182, 0, 69, 164, 0, 7, 4, 167, 0, 4, 3, 62, 29, 153, 0, 7, 28]
abbrev dktX5_bestBarn_1 : List UInt8 := dkwX5_bestBarn_1 ++ dktX5_bestBarn_2
def dkwX5_bestBarn_0 : List UInt8 := [18, 25, 60, 3, 61, 28, 8, 162, 0, 52, 42, 28, 182, 0, 112, 154, 0, 26, 27, 18, 25, 159, 0, 16]
abbrev dktX5_bestBarn_0 : List UInt8 := dkwX5_bestBarn_0 ++ dktX5_bestBarn_1
theorem dksX5_bestBarn_0 : cX5_bestBarn.data.toList.drop 0 = dktX5_bestBarn_0 := by decide +kernel
theorem dksX5_bestBarn_1 : cX5_bestBarn.data.toList.drop 24 = dktX5_bestBarn_1 := dk_seg dksX5_bestBarn_0 24 rfl rfl
theorem dksX5_bestBarn_2 : cX5_bestBarn.data.toList.drop 48 = dktX5_bestBarn_2 := dk_seg dksX5_bestBarn_1 24 rfl rfl
theorem dX5_bestBarn_0 : decode cX5_bestBarn 0 = .ok (.ldc 25, 2) := dk_18 25 (dk_at dksX5_bestBarn_0 0 rfl rfl)
theorem dX5_bestBarn_2 : decode cX5_bestBarn 2 = .ok (.istore_n 1, 1) := dk_60 (dk_at dksX5_bestBarn_0 2 rfl rfl)
theorem dX5_bestBarn_3 : decode cX5_bestBarn 3 = .ok (.iconst 0, 1) := dk_3 (dk_at dksX5_bestBarn_0 3 rfl rfl)
theorem dX5_bestBarn_4 : decode cX5_bestBarn 4 = .ok (.istore_n 2, 1) := dk_61 (dk_at dksX5_bestBarn_0 4 rfl rfl)
theorem dX5_bestBarn_5 : decode cX5_bestBarn 5 = .ok (.iload_n 2, 1) := dk_28 (dk_at dksX5_bestBarn_0 5 rfl rfl)
theorem dX5_bestBarn_6 : decode cX5_bestBarn 6 = .ok (.iconst 5, 1) := dk_8 (dk_at dksX5_bestBarn_0 6 rfl rfl)
theorem dX5_bestBarn_7 : decode cX5_bestBarn 7 = .ok (.if_icmp .ge 52, 3) := dk_162 0 52 (dk_at dksX5_bestBarn_0 7 rfl rfl)
theorem dX5_bestBarn_10 : decode cX5_bestBarn 10 = .ok (.aload_n 0, 1) := dk_42 (dk_at dksX5_bestBarn_0 10 rfl rfl)
theorem dX5_bestBarn_11 : decode cX5_bestBarn 11 = .ok (.iload_n 2, 1) := dk_28 (dk_at dksX5_bestBarn_0 11 rfl rfl)
theorem dX5_bestBarn_12 : decode cX5_bestBarn 12 = .ok (.invokevirtual 112, 3) := dk_182 0 112 (dk_at dksX5_bestBarn_0 12 rfl rfl)
theorem dX5_bestBarn_15 : decode cX5_bestBarn 15 = .ok (.ifCond .ne 26, 3) := dk_154 0 26 (dk_at dksX5_bestBarn_0 15 rfl rfl)
theorem dX5_bestBarn_18 : decode cX5_bestBarn 18 = .ok (.iload_n 1, 1) := dk_27 (dk_at dksX5_bestBarn_0 18 rfl rfl)
theorem dX5_bestBarn_19 : decode cX5_bestBarn 19 = .ok (.ldc 25, 2) := dk_18 25 (dk_at dksX5_bestBarn_0 19 rfl rfl)
theorem dX5_bestBarn_21 : decode cX5_bestBarn 21 = .ok (.if_icmp .eq 16, 3) := dk_159 0 16 (dk_at dksX5_bestBarn_0 21 rfl rfl)
theorem dX5_bestBarn_24 : decode cX5_bestBarn 24 = .ok (.aload_n 0, 1) := dk_42 (dk_at dksX5_bestBarn_1 0 rfl rfl)
theorem dX5_bestBarn_25 : decode cX5_bestBarn 25 = .ok (.iload_n 2, 1) := dk_28 (dk_at dksX5_bestBarn_1 1 rfl rfl)
theorem dX5_bestBarn_26 : decode cX5_bestBarn 26 = .ok (.invokevirtual 69, 3) := dk_182 0 69 (dk_at dksX5_bestBarn_1 2 rfl rfl)
theorem dX5_bestBarn_29 : decode cX5_bestBarn 29 = .ok (.aload_n 0, 1) := dk_42 (dk_at dksX5_bestBarn_1 5 rfl rfl)
theorem dX5_bestBarn_30 : decode cX5_bestBarn 30 = .ok (.iload_n 1, 1) := dk_27 (dk_at dksX5_bestBarn_1 6 rfl rfl)
theorem dX5_bestBarn_31 : decode cX5_bestBarn 31 = .ok (.invokevirtual 69, 3) := dk_182 0 69 (dk_at dksX5_bestBarn_1 7 rfl rfl)
theorem dX5_bestBarn_34 : decode cX5_bestBarn 34 = .ok (.if_icmp .le 7, 3) := dk_164 0 7 (dk_at dksX5_bestBarn_1 10 rfl rfl)
theorem dX5_bestBarn_37 : decode cX5_bestBarn 37 = .ok (.iconst 1, 1) := dk_4 (dk_at dksX5_bestBarn_1 13 rfl rfl)
theorem dX5_bestBarn_38 : decode cX5_bestBarn 38 = .ok (.goto 4, 3) := dk_167 0 4 (dk_at dksX5_bestBarn_1 14 rfl rfl)
theorem dX5_bestBarn_41 : decode cX5_bestBarn 41 = .ok (.iconst 0, 1) := dk_3 (dk_at dksX5_bestBarn_1 17 rfl rfl)
theorem dX5_bestBarn_42 : decode cX5_bestBarn 42 = .ok (.istore_n 3, 1) := dk_62 (dk_at dksX5_bestBarn_1 18 rfl rfl)
theorem dX5_bestBarn_43 : decode cX5_bestBarn 43 = .ok (.iload_n 3, 1) := dk_29 (dk_at dksX5_bestBarn_1 19 rfl rfl)
theorem dX5_bestBarn_44 : decode cX5_bestBarn 44 = .ok (.ifCond .eq 7, 3) := dk_153 0 7 (dk_at dksX5_bestBarn_1 20 rfl rfl)
theorem dX5_bestBarn_47 : decode cX5_bestBarn 47 = .ok (.iload_n 2, 1) := dk_28 (dk_at dksX5_bestBarn_1 23 rfl rfl)
theorem dX5_bestBarn_48 : decode cX5_bestBarn 48 = .ok (.goto 4, 3) := dk_167 0 4 (dk_at dksX5_bestBarn_2 0 rfl rfl)
theorem dX5_bestBarn_51 : decode cX5_bestBarn 51 = .ok (.iload_n 1, 1) := dk_27 (dk_at dksX5_bestBarn_2 3 rfl rfl)
theorem dX5_bestBarn_52 : decode cX5_bestBarn 52 = .ok (.istore_n 1, 1) := dk_60 (dk_at dksX5_bestBarn_2 4 rfl rfl)
theorem dX5_bestBarn_53 : decode cX5_bestBarn 53 = .ok (.iinc 2 1, 3) := dk_132 2 1 (dk_at dksX5_bestBarn_2 5 rfl rfl)
theorem dX5_bestBarn_56 : decode cX5_bestBarn 56 = .ok (.goto (-51), 3) := dk_167 255 205 (dk_at dksX5_bestBarn_2 8 rfl rfl)
theorem dX5_bestBarn_59 : decode cX5_bestBarn 59 = .ok (.iload_n 1, 1) := dk_27 (dk_at dksX5_bestBarn_2 11 rfl rfl)
theorem dX5_bestBarn_60 : decode cX5_bestBarn 60 = .ok (.ireturn, 1) := dk_172 (dk_at dksX5_bestBarn_2 12 rfl rfl)
abbrev cX5_ifPrice : ByteArray := prog_14_method_56_code
def yX5_ifPrice : MethodName := ⟨RX5, "ifPrice", "(II)I"⟩
def dkwX5_ifPrice_1 : List UInt8 := [182, 0, 69, 28, 104, 167, 0, 5, 18, 59, 172]
abbrev dktX5_ifPrice_1 : List UInt8 := dkwX5_ifPrice_1 ++ []
def dkwX5_ifPrice_0 : List UInt8 := [27, 184, 0, 80, 154, 0, 8, 18, 58, 167, 0, 25, 28, 4, 16, 99, 184, 0, 37, 153, 0, 13, 42, 27]
abbrev dktX5_ifPrice_0 : List UInt8 := dkwX5_ifPrice_0 ++ dktX5_ifPrice_1
theorem dksX5_ifPrice_0 : cX5_ifPrice.data.toList.drop 0 = dktX5_ifPrice_0 := by decide +kernel
theorem dksX5_ifPrice_1 : cX5_ifPrice.data.toList.drop 24 = dktX5_ifPrice_1 := dk_seg dksX5_ifPrice_0 24 rfl rfl
theorem dX5_ifPrice_0 : decode cX5_ifPrice 0 = .ok (.iload_n 1, 1) := dk_27 (dk_at dksX5_ifPrice_0 0 rfl rfl)
theorem dX5_ifPrice_1 : decode cX5_ifPrice 1 = .ok (.invokestatic 80, 3) := dk_184 0 80 (dk_at dksX5_ifPrice_0 1 rfl rfl)
theorem dX5_ifPrice_4 : decode cX5_ifPrice 4 = .ok (.ifCond .ne 8, 3) := dk_154 0 8 (dk_at dksX5_ifPrice_0 4 rfl rfl)
theorem dX5_ifPrice_7 : decode cX5_ifPrice 7 = .ok (.ldc 58, 2) := dk_18 58 (dk_at dksX5_ifPrice_0 7 rfl rfl)
theorem dX5_ifPrice_9 : decode cX5_ifPrice 9 = .ok (.goto 25, 3) := dk_167 0 25 (dk_at dksX5_ifPrice_0 9 rfl rfl)
theorem dX5_ifPrice_12 : decode cX5_ifPrice 12 = .ok (.iload_n 2, 1) := dk_28 (dk_at dksX5_ifPrice_0 12 rfl rfl)
theorem dX5_ifPrice_13 : decode cX5_ifPrice 13 = .ok (.iconst 1, 1) := dk_4 (dk_at dksX5_ifPrice_0 13 rfl rfl)
theorem dX5_ifPrice_14 : decode cX5_ifPrice 14 = .ok (.bipush 99, 2) := dk_16 99 (dk_at dksX5_ifPrice_0 14 rfl rfl)
theorem dX5_ifPrice_16 : decode cX5_ifPrice 16 = .ok (.invokestatic 37, 3) := dk_184 0 37 (dk_at dksX5_ifPrice_0 16 rfl rfl)
theorem dX5_ifPrice_19 : decode cX5_ifPrice 19 = .ok (.ifCond .eq 13, 3) := dk_153 0 13 (dk_at dksX5_ifPrice_0 19 rfl rfl)
theorem dX5_ifPrice_22 : decode cX5_ifPrice 22 = .ok (.aload_n 0, 1) := dk_42 (dk_at dksX5_ifPrice_0 22 rfl rfl)
theorem dX5_ifPrice_23 : decode cX5_ifPrice 23 = .ok (.iload_n 1, 1) := dk_27 (dk_at dksX5_ifPrice_0 23 rfl rfl)
theorem dX5_ifPrice_24 : decode cX5_ifPrice 24 = .ok (.invokevirtual 69, 3) := dk_182 0 69 (dk_at dksX5_ifPrice_1 0 rfl rfl)
theorem dX5_ifPrice_27 : decode cX5_ifPrice 27 = .ok (.iload_n 2, 1) := dk_28 (dk_at dksX5_ifPrice_1 3 rfl rfl)
theorem dX5_ifPrice_28 : decode cX5_ifPrice 28 = .ok (.imul, 1) := dk_104 (dk_at dksX5_ifPrice_1 4 rfl rfl)
theorem dX5_ifPrice_29 : decode cX5_ifPrice 29 = .ok (.goto 5, 3) := dk_167 0 5 (dk_at dksX5_ifPrice_1 5 rfl rfl)
theorem dX5_ifPrice_32 : decode cX5_ifPrice 32 = .ok (.ldc 59, 2) := dk_18 59 (dk_at dksX5_ifPrice_1 8 rfl rfl)
theorem dX5_ifPrice_34 : decode cX5_ifPrice 34 = .ok (.ireturn, 1) := dk_172 (dk_at dksX5_ifPrice_1 10 rfl rfl)
abbrev cX5_showOf : ByteArray := prog_14_method_57_code
def yX5_showOf : MethodName := ⟨RX5, "showOf", "(II)I"⟩
def dkwX5_showOf_2 : List UInt8 := [172]
abbrev dktX5_showOf_2 : List UInt8 := dkwX5_showOf_2 ++ []
def dkwX5_showOf_1 : List UInt8 := [16, 77, 46, 162, 0, 19, 42, 180, 0, 7, 16, 78, 8, 27, 104, 96, 28, 96, 46, 167, 0, 5, 18, 25]
abbrev dktX5_showOf_1 : List UInt8 := dkwX5_showOf_1 ++ dktX5_showOf_2
def dkwX5_showOf_0 : List UInt8 := [27, 155, 0, 12, 28, 3, 7, 184, 0, 37, 154, 0, 8, 18, 59, 167, 0, 32, 27, 42, 180, 0, 7]
abbrev dktX5_showOf_0 : List UInt8 := dkwX5_showOf_0 ++ dktX5_showOf_1
theorem dksX5_showOf_0 : cX5_showOf.data.toList.drop 0 = dktX5_showOf_0 := by decide +kernel
theorem dksX5_showOf_1 : cX5_showOf.data.toList.drop 23 = dktX5_showOf_1 := dk_seg dksX5_showOf_0 23 rfl rfl
theorem dksX5_showOf_2 : cX5_showOf.data.toList.drop 47 = dktX5_showOf_2 := dk_seg dksX5_showOf_1 24 rfl rfl
theorem dX5_showOf_0 : decode cX5_showOf 0 = .ok (.iload_n 1, 1) := dk_27 (dk_at dksX5_showOf_0 0 rfl rfl)
theorem dX5_showOf_1 : decode cX5_showOf 1 = .ok (.ifCond .lt 12, 3) := dk_155 0 12 (dk_at dksX5_showOf_0 1 rfl rfl)
theorem dX5_showOf_4 : decode cX5_showOf 4 = .ok (.iload_n 2, 1) := dk_28 (dk_at dksX5_showOf_0 4 rfl rfl)
theorem dX5_showOf_5 : decode cX5_showOf 5 = .ok (.iconst 0, 1) := dk_3 (dk_at dksX5_showOf_0 5 rfl rfl)
theorem dX5_showOf_6 : decode cX5_showOf 6 = .ok (.iconst 4, 1) := dk_7 (dk_at dksX5_showOf_0 6 rfl rfl)
theorem dX5_showOf_7 : decode cX5_showOf 7 = .ok (.invokestatic 37, 3) := dk_184 0 37 (dk_at dksX5_showOf_0 7 rfl rfl)
theorem dX5_showOf_10 : decode cX5_showOf 10 = .ok (.ifCond .ne 8, 3) := dk_154 0 8 (dk_at dksX5_showOf_0 10 rfl rfl)
theorem dX5_showOf_13 : decode cX5_showOf 13 = .ok (.ldc 59, 2) := dk_18 59 (dk_at dksX5_showOf_0 13 rfl rfl)
theorem dX5_showOf_15 : decode cX5_showOf 15 = .ok (.goto 32, 3) := dk_167 0 32 (dk_at dksX5_showOf_0 15 rfl rfl)
theorem dX5_showOf_18 : decode cX5_showOf 18 = .ok (.iload_n 1, 1) := dk_27 (dk_at dksX5_showOf_0 18 rfl rfl)
theorem dX5_showOf_19 : decode cX5_showOf 19 = .ok (.aload_n 0, 1) := dk_42 (dk_at dksX5_showOf_0 19 rfl rfl)
theorem dX5_showOf_20 : decode cX5_showOf 20 = .ok (.getfield 7, 3) := dk_180 0 7 (dk_at dksX5_showOf_0 20 rfl rfl)
theorem dX5_showOf_23 : decode cX5_showOf 23 = .ok (.bipush 77, 2) := dk_16 77 (dk_at dksX5_showOf_1 0 rfl rfl)
theorem dX5_showOf_25 : decode cX5_showOf 25 = .ok (.iaload, 1) := dk_46 (dk_at dksX5_showOf_1 2 rfl rfl)
theorem dX5_showOf_26 : decode cX5_showOf 26 = .ok (.if_icmp .ge 19, 3) := dk_162 0 19 (dk_at dksX5_showOf_1 3 rfl rfl)
theorem dX5_showOf_29 : decode cX5_showOf 29 = .ok (.aload_n 0, 1) := dk_42 (dk_at dksX5_showOf_1 6 rfl rfl)
theorem dX5_showOf_30 : decode cX5_showOf 30 = .ok (.getfield 7, 3) := dk_180 0 7 (dk_at dksX5_showOf_1 7 rfl rfl)
theorem dX5_showOf_33 : decode cX5_showOf 33 = .ok (.bipush 78, 2) := dk_16 78 (dk_at dksX5_showOf_1 10 rfl rfl)
theorem dX5_showOf_35 : decode cX5_showOf 35 = .ok (.iconst 5, 1) := dk_8 (dk_at dksX5_showOf_1 12 rfl rfl)
theorem dX5_showOf_36 : decode cX5_showOf 36 = .ok (.iload_n 1, 1) := dk_27 (dk_at dksX5_showOf_1 13 rfl rfl)
theorem dX5_showOf_37 : decode cX5_showOf 37 = .ok (.imul, 1) := dk_104 (dk_at dksX5_showOf_1 14 rfl rfl)
theorem dX5_showOf_38 : decode cX5_showOf 38 = .ok (.iadd, 1) := dk_96 (dk_at dksX5_showOf_1 15 rfl rfl)
theorem dX5_showOf_39 : decode cX5_showOf 39 = .ok (.iload_n 2, 1) := dk_28 (dk_at dksX5_showOf_1 16 rfl rfl)
theorem dX5_showOf_40 : decode cX5_showOf 40 = .ok (.iadd, 1) := dk_96 (dk_at dksX5_showOf_1 17 rfl rfl)
theorem dX5_showOf_41 : decode cX5_showOf 41 = .ok (.iaload, 1) := dk_46 (dk_at dksX5_showOf_1 18 rfl rfl)
theorem dX5_showOf_42 : decode cX5_showOf 42 = .ok (.goto 5, 3) := dk_167 0 5 (dk_at dksX5_showOf_1 19 rfl rfl)
theorem dX5_showOf_45 : decode cX5_showOf 45 = .ok (.ldc 25, 2) := dk_18 25 (dk_at dksX5_showOf_1 22 rfl rfl)
theorem dX5_showOf_47 : decode cX5_showOf 47 = .ok (.ireturn, 1) := dk_172 (dk_at dksX5_showOf_2 0 rfl rfl)
abbrev cX5_count : ByteArray := prog_14_method_59_code
def yX5_count : MethodName := ⟨RX5, "count", "(I)I"⟩
def dkwX5_count_6 : List UInt8 := [42, 180, 0, 41, 172, 42, 180, 0, 122, 172, 18, 59, 172]
abbrev dktX5_count_6 : List UInt8 := dkwX5_count_6 ++ []
def dkwX5_count_5 : List UInt8 := [42, 180, 0, 7, 16, 75, 46, 172, 42, 180, 0, 7, 16, 56, 46, 172, 42, 180, 0, 7, 16, 76, 46, 172]
abbrev dktX5_count_5 : List UInt8 := dkwX5_count_5 ++ dktX5_count_6
def dkwX5_count_4 : List UInt8 := [42, 16, 67, 8, 182, 0, 179, 42, 16, 72, 6, 182, 0, 179, 100, 172, 42, 16, 62, 8, 182, 0, 179, 172]
abbrev dktX5_count_4 : List UInt8 := dkwX5_count_4 ++ dktX5_count_5
def dkwX5_count_3 : List UInt8 := [182, 0, 176, 172, 42, 16, 67, 8, 182, 0, 179, 172, 42, 180, 0, 7, 16, 72, 27, 96, 8, 100, 46, 172]
abbrev dktX5_count_3 : List UInt8 := dkwX5_count_3 ++ dktX5_count_4
def dkwX5_count_2 : List UInt8 := [42, 180, 0, 7, 16, 55, 46, 172, 42, 180, 0, 7, 16, 54, 46, 172, 42, 182, 0, 45, 172, 42]
abbrev dktX5_count_2 : List UInt8 := dkwX5_count_2 ++ dktX5_count_3
def dkwX5_count_1 : List UInt8 := [170, 0, 0, 0, 0, 0, 179, 0, 0, 0, 0, 0, 0, 0, 14, 0, 0, 0, 75, 0, 0, 0, 83, 0, 0, 0, 91, 0, 0, 0, 96, 0, 0, 0, 101, 0, 0, 0, 109, 0, 0, 0, 109, 0, 0, 0, 109, 0, 0, 0, 121, 0, 0, 0, 137, 0, 0, 0, 145, 0, 0, 0, 153, 0, 0, 0, 161, 0, 0, 0, 169, 0, 0, 0, 174]
abbrev dktX5_count_1 : List UInt8 := dkwX5_count_1 ++ dktX5_count_2
def dkwX5_count_0 : List UInt8 := [27]
abbrev dktX5_count_0 : List UInt8 := dkwX5_count_0 ++ dktX5_count_1
theorem dksX5_count_0 : cX5_count.data.toList.drop 0 = dktX5_count_0 := by decide +kernel
theorem dksX5_count_1 : cX5_count.data.toList.drop 1 = dktX5_count_1 := dk_seg dksX5_count_0 1 rfl rfl
theorem dksX5_count_2 : cX5_count.data.toList.drop 76 = dktX5_count_2 := dk_seg dksX5_count_1 75 rfl rfl
theorem dksX5_count_3 : cX5_count.data.toList.drop 98 = dktX5_count_3 := dk_seg dksX5_count_2 22 rfl rfl
theorem dksX5_count_4 : cX5_count.data.toList.drop 122 = dktX5_count_4 := dk_seg dksX5_count_3 24 rfl rfl
theorem dksX5_count_5 : cX5_count.data.toList.drop 146 = dktX5_count_5 := dk_seg dksX5_count_4 24 rfl rfl
theorem dksX5_count_6 : cX5_count.data.toList.drop 170 = dktX5_count_6 := dk_seg dksX5_count_5 24 rfl rfl
theorem dX5_count_0 : decode cX5_count 0 = .ok (.iload_n 1, 1) := dk_27 (dk_at dksX5_count_0 0 rfl rfl)
theorem dX5_count_1 : decode cX5_count 1 = .ok (.tableswitch 179 0 14 #[75, 83, 91, 96, 101, 109, 109, 109, 121, 137, 145, 153, 161, 169, 174], 75) := by decide +kernel
theorem dX5_count_76 : decode cX5_count 76 = .ok (.aload_n 0, 1) := dk_42 (dk_at dksX5_count_2 0 rfl rfl)
theorem dX5_count_77 : decode cX5_count 77 = .ok (.getfield 7, 3) := dk_180 0 7 (dk_at dksX5_count_2 1 rfl rfl)
theorem dX5_count_80 : decode cX5_count 80 = .ok (.bipush 55, 2) := dk_16 55 (dk_at dksX5_count_2 4 rfl rfl)
theorem dX5_count_82 : decode cX5_count 82 = .ok (.iaload, 1) := dk_46 (dk_at dksX5_count_2 6 rfl rfl)
theorem dX5_count_83 : decode cX5_count 83 = .ok (.ireturn, 1) := dk_172 (dk_at dksX5_count_2 7 rfl rfl)
theorem dX5_count_84 : decode cX5_count 84 = .ok (.aload_n 0, 1) := dk_42 (dk_at dksX5_count_2 8 rfl rfl)
theorem dX5_count_85 : decode cX5_count 85 = .ok (.getfield 7, 3) := dk_180 0 7 (dk_at dksX5_count_2 9 rfl rfl)
theorem dX5_count_88 : decode cX5_count 88 = .ok (.bipush 54, 2) := dk_16 54 (dk_at dksX5_count_2 12 rfl rfl)
theorem dX5_count_90 : decode cX5_count 90 = .ok (.iaload, 1) := dk_46 (dk_at dksX5_count_2 14 rfl rfl)
theorem dX5_count_91 : decode cX5_count 91 = .ok (.ireturn, 1) := dk_172 (dk_at dksX5_count_2 15 rfl rfl)
theorem dX5_count_92 : decode cX5_count 92 = .ok (.aload_n 0, 1) := dk_42 (dk_at dksX5_count_2 16 rfl rfl)
theorem dX5_count_93 : decode cX5_count 93 = .ok (.invokevirtual 45, 3) := dk_182 0 45 (dk_at dksX5_count_2 17 rfl rfl)
theorem dX5_count_96 : decode cX5_count 96 = .ok (.ireturn, 1) := dk_172 (dk_at dksX5_count_2 20 rfl rfl)
theorem dX5_count_97 : decode cX5_count 97 = .ok (.aload_n 0, 1) := dk_42 (dk_at dksX5_count_2 21 rfl rfl)
theorem dX5_count_98 : decode cX5_count 98 = .ok (.invokevirtual 176, 3) := dk_182 0 176 (dk_at dksX5_count_3 0 rfl rfl)
theorem dX5_count_101 : decode cX5_count 101 = .ok (.ireturn, 1) := dk_172 (dk_at dksX5_count_3 3 rfl rfl)
theorem dX5_count_102 : decode cX5_count 102 = .ok (.aload_n 0, 1) := dk_42 (dk_at dksX5_count_3 4 rfl rfl)
theorem dX5_count_103 : decode cX5_count 103 = .ok (.bipush 67, 2) := dk_16 67 (dk_at dksX5_count_3 5 rfl rfl)
theorem dX5_count_105 : decode cX5_count 105 = .ok (.iconst 5, 1) := dk_8 (dk_at dksX5_count_3 7 rfl rfl)
theorem dX5_count_106 : decode cX5_count 106 = .ok (.invokevirtual 179, 3) := dk_182 0 179 (dk_at dksX5_count_3 8 rfl rfl)
theorem dX5_count_109 : decode cX5_count 109 = .ok (.ireturn, 1) := dk_172 (dk_at dksX5_count_3 11 rfl rfl)
theorem dX5_count_110 : decode cX5_count 110 = .ok (.aload_n 0, 1) := dk_42 (dk_at dksX5_count_3 12 rfl rfl)
theorem dX5_count_111 : decode cX5_count 111 = .ok (.getfield 7, 3) := dk_180 0 7 (dk_at dksX5_count_3 13 rfl rfl)
theorem dX5_count_114 : decode cX5_count 114 = .ok (.bipush 72, 2) := dk_16 72 (dk_at dksX5_count_3 16 rfl rfl)
theorem dX5_count_116 : decode cX5_count 116 = .ok (.iload_n 1, 1) := dk_27 (dk_at dksX5_count_3 18 rfl rfl)
theorem dX5_count_117 : decode cX5_count 117 = .ok (.iadd, 1) := dk_96 (dk_at dksX5_count_3 19 rfl rfl)
theorem dX5_count_118 : decode cX5_count 118 = .ok (.iconst 5, 1) := dk_8 (dk_at dksX5_count_3 20 rfl rfl)
theorem dX5_count_119 : decode cX5_count 119 = .ok (.isub, 1) := dk_100 (dk_at dksX5_count_3 21 rfl rfl)
theorem dX5_count_120 : decode cX5_count 120 = .ok (.iaload, 1) := dk_46 (dk_at dksX5_count_3 22 rfl rfl)
theorem dX5_count_121 : decode cX5_count 121 = .ok (.ireturn, 1) := dk_172 (dk_at dksX5_count_3 23 rfl rfl)
theorem dX5_count_122 : decode cX5_count 122 = .ok (.aload_n 0, 1) := dk_42 (dk_at dksX5_count_4 0 rfl rfl)
theorem dX5_count_123 : decode cX5_count 123 = .ok (.bipush 67, 2) := dk_16 67 (dk_at dksX5_count_4 1 rfl rfl)
theorem dX5_count_125 : decode cX5_count 125 = .ok (.iconst 5, 1) := dk_8 (dk_at dksX5_count_4 3 rfl rfl)
theorem dX5_count_126 : decode cX5_count 126 = .ok (.invokevirtual 179, 3) := dk_182 0 179 (dk_at dksX5_count_4 4 rfl rfl)
theorem dX5_count_129 : decode cX5_count 129 = .ok (.aload_n 0, 1) := dk_42 (dk_at dksX5_count_4 7 rfl rfl)
theorem dX5_count_130 : decode cX5_count 130 = .ok (.bipush 72, 2) := dk_16 72 (dk_at dksX5_count_4 8 rfl rfl)
theorem dX5_count_132 : decode cX5_count 132 = .ok (.iconst 3, 1) := dk_6 (dk_at dksX5_count_4 10 rfl rfl)
theorem dX5_count_133 : decode cX5_count 133 = .ok (.invokevirtual 179, 3) := dk_182 0 179 (dk_at dksX5_count_4 11 rfl rfl)
theorem dX5_count_136 : decode cX5_count 136 = .ok (.isub, 1) := dk_100 (dk_at dksX5_count_4 14 rfl rfl)
theorem dX5_count_137 : decode cX5_count 137 = .ok (.ireturn, 1) := dk_172 (dk_at dksX5_count_4 15 rfl rfl)
theorem dX5_count_138 : decode cX5_count 138 = .ok (.aload_n 0, 1) := dk_42 (dk_at dksX5_count_4 16 rfl rfl)
theorem dX5_count_139 : decode cX5_count 139 = .ok (.bipush 62, 2) := dk_16 62 (dk_at dksX5_count_4 17 rfl rfl)
theorem dX5_count_141 : decode cX5_count 141 = .ok (.iconst 5, 1) := dk_8 (dk_at dksX5_count_4 19 rfl rfl)
theorem dX5_count_142 : decode cX5_count 142 = .ok (.invokevirtual 179, 3) := dk_182 0 179 (dk_at dksX5_count_4 20 rfl rfl)
theorem dX5_count_145 : decode cX5_count 145 = .ok (.ireturn, 1) := dk_172 (dk_at dksX5_count_4 23 rfl rfl)
theorem dX5_count_146 : decode cX5_count 146 = .ok (.aload_n 0, 1) := dk_42 (dk_at dksX5_count_5 0 rfl rfl)
theorem dX5_count_147 : decode cX5_count 147 = .ok (.getfield 7, 3) := dk_180 0 7 (dk_at dksX5_count_5 1 rfl rfl)
theorem dX5_count_150 : decode cX5_count 150 = .ok (.bipush 75, 2) := dk_16 75 (dk_at dksX5_count_5 4 rfl rfl)
theorem dX5_count_152 : decode cX5_count 152 = .ok (.iaload, 1) := dk_46 (dk_at dksX5_count_5 6 rfl rfl)
theorem dX5_count_153 : decode cX5_count 153 = .ok (.ireturn, 1) := dk_172 (dk_at dksX5_count_5 7 rfl rfl)
theorem dX5_count_154 : decode cX5_count 154 = .ok (.aload_n 0, 1) := dk_42 (dk_at dksX5_count_5 8 rfl rfl)
theorem dX5_count_155 : decode cX5_count 155 = .ok (.getfield 7, 3) := dk_180 0 7 (dk_at dksX5_count_5 9 rfl rfl)
theorem dX5_count_158 : decode cX5_count 158 = .ok (.bipush 56, 2) := dk_16 56 (dk_at dksX5_count_5 12 rfl rfl)
theorem dX5_count_160 : decode cX5_count 160 = .ok (.iaload, 1) := dk_46 (dk_at dksX5_count_5 14 rfl rfl)
theorem dX5_count_161 : decode cX5_count 161 = .ok (.ireturn, 1) := dk_172 (dk_at dksX5_count_5 15 rfl rfl)
theorem dX5_count_162 : decode cX5_count 162 = .ok (.aload_n 0, 1) := dk_42 (dk_at dksX5_count_5 16 rfl rfl)
theorem dX5_count_163 : decode cX5_count 163 = .ok (.getfield 7, 3) := dk_180 0 7 (dk_at dksX5_count_5 17 rfl rfl)
theorem dX5_count_166 : decode cX5_count 166 = .ok (.bipush 76, 2) := dk_16 76 (dk_at dksX5_count_5 20 rfl rfl)
theorem dX5_count_168 : decode cX5_count 168 = .ok (.iaload, 1) := dk_46 (dk_at dksX5_count_5 22 rfl rfl)
theorem dX5_count_169 : decode cX5_count 169 = .ok (.ireturn, 1) := dk_172 (dk_at dksX5_count_5 23 rfl rfl)
theorem dX5_count_170 : decode cX5_count 170 = .ok (.aload_n 0, 1) := dk_42 (dk_at dksX5_count_6 0 rfl rfl)
theorem dX5_count_171 : decode cX5_count 171 = .ok (.getfield 41, 3) := dk_180 0 41 (dk_at dksX5_count_6 1 rfl rfl)
theorem dX5_count_174 : decode cX5_count 174 = .ok (.ireturn, 1) := dk_172 (dk_at dksX5_count_6 4 rfl rfl)
theorem dX5_count_175 : decode cX5_count 175 = .ok (.aload_n 0, 1) := dk_42 (dk_at dksX5_count_6 5 rfl rfl)
theorem dX5_count_176 : decode cX5_count 176 = .ok (.getfield 122, 3) := dk_180 0 122 (dk_at dksX5_count_6 6 rfl rfl)
theorem dX5_count_179 : decode cX5_count 179 = .ok (.ireturn, 1) := dk_172 (dk_at dksX5_count_6 9 rfl rfl)
theorem dX5_count_180 : decode cX5_count 180 = .ok (.ldc 59, 2) := dk_18 59 (dk_at dksX5_count_6 10 rfl rfl)
theorem dX5_count_182 : decode cX5_count 182 = .ok (.ireturn, 1) := dk_172 (dk_at dksX5_count_6 12 rfl rfl)
abbrev cX5_gone : ByteArray := prog_14_method_58_code
def yX5_gone : MethodName := ⟨RX5, "gone", "()I"⟩
def dkwX5_gone_1 : List UInt8 := [160, 0, 7, 4, 167, 0, 4, 3, 96, 60, 132, 2, 1, 167, 255, 224, 27, 172]
abbrev dktX5_gone_1 : List UInt8 := dkwX5_gone_1 ++ []
def dkwX5_gone_0 : List UInt8 := [3, 60, 3, 61, 28, 16, 10, 162, 0, 32, 27, 42, 180, 0, 7, 28, 3, 184, 0, 33, 46, 16, 254]
abbrev dktX5_gone_0 : List UInt8 := dkwX5_gone_0 ++ dktX5_gone_1
theorem dksX5_gone_0 : cX5_gone.data.toList.drop 0 = dktX5_gone_0 := by decide +kernel
theorem dksX5_gone_1 : cX5_gone.data.toList.drop 23 = dktX5_gone_1 := dk_seg dksX5_gone_0 23 rfl rfl
theorem dX5_gone_0 : decode cX5_gone 0 = .ok (.iconst 0, 1) := dk_3 (dk_at dksX5_gone_0 0 rfl rfl)
theorem dX5_gone_1 : decode cX5_gone 1 = .ok (.istore_n 1, 1) := dk_60 (dk_at dksX5_gone_0 1 rfl rfl)
theorem dX5_gone_2 : decode cX5_gone 2 = .ok (.iconst 0, 1) := dk_3 (dk_at dksX5_gone_0 2 rfl rfl)
theorem dX5_gone_3 : decode cX5_gone 3 = .ok (.istore_n 2, 1) := dk_61 (dk_at dksX5_gone_0 3 rfl rfl)
theorem dX5_gone_4 : decode cX5_gone 4 = .ok (.iload_n 2, 1) := dk_28 (dk_at dksX5_gone_0 4 rfl rfl)
theorem dX5_gone_5 : decode cX5_gone 5 = .ok (.bipush 10, 2) := dk_16 10 (dk_at dksX5_gone_0 5 rfl rfl)
theorem dX5_gone_7 : decode cX5_gone 7 = .ok (.if_icmp .ge 32, 3) := dk_162 0 32 (dk_at dksX5_gone_0 7 rfl rfl)
theorem dX5_gone_10 : decode cX5_gone 10 = .ok (.iload_n 1, 1) := dk_27 (dk_at dksX5_gone_0 10 rfl rfl)
theorem dX5_gone_11 : decode cX5_gone 11 = .ok (.aload_n 0, 1) := dk_42 (dk_at dksX5_gone_0 11 rfl rfl)
theorem dX5_gone_12 : decode cX5_gone 12 = .ok (.getfield 7, 3) := dk_180 0 7 (dk_at dksX5_gone_0 12 rfl rfl)
theorem dX5_gone_15 : decode cX5_gone 15 = .ok (.iload_n 2, 1) := dk_28 (dk_at dksX5_gone_0 15 rfl rfl)
theorem dX5_gone_16 : decode cX5_gone 16 = .ok (.iconst 0, 1) := dk_3 (dk_at dksX5_gone_0 16 rfl rfl)
theorem dX5_gone_17 : decode cX5_gone 17 = .ok (.invokestatic 33, 3) := dk_184 0 33 (dk_at dksX5_gone_0 17 rfl rfl)
theorem dX5_gone_20 : decode cX5_gone 20 = .ok (.iaload, 1) := dk_46 (dk_at dksX5_gone_0 20 rfl rfl)
theorem dX5_gone_21 : decode cX5_gone 21 = .ok (.bipush (-2), 2) := dk_16 254 (dk_at dksX5_gone_0 21 rfl rfl)
theorem dX5_gone_23 : decode cX5_gone 23 = .ok (.if_icmp .ne 7, 3) := dk_160 0 7 (dk_at dksX5_gone_1 0 rfl rfl)
theorem dX5_gone_26 : decode cX5_gone 26 = .ok (.iconst 1, 1) := dk_4 (dk_at dksX5_gone_1 3 rfl rfl)
theorem dX5_gone_27 : decode cX5_gone 27 = .ok (.goto 4, 3) := dk_167 0 4 (dk_at dksX5_gone_1 4 rfl rfl)
theorem dX5_gone_30 : decode cX5_gone 30 = .ok (.iconst 0, 1) := dk_3 (dk_at dksX5_gone_1 7 rfl rfl)
theorem dX5_gone_31 : decode cX5_gone 31 = .ok (.iadd, 1) := dk_96 (dk_at dksX5_gone_1 8 rfl rfl)
theorem dX5_gone_32 : decode cX5_gone 32 = .ok (.istore_n 1, 1) := dk_60 (dk_at dksX5_gone_1 9 rfl rfl)
theorem dX5_gone_33 : decode cX5_gone 33 = .ok (.iinc 2 1, 3) := dk_132 2 1 (dk_at dksX5_gone_1 10 rfl rfl)
theorem dX5_gone_36 : decode cX5_gone 36 = .ok (.goto (-32), 3) := dk_167 255 224 (dk_at dksX5_gone_1 13 rfl rfl)
theorem dX5_gone_39 : decode cX5_gone 39 = .ok (.iload_n 1, 1) := dk_27 (dk_at dksX5_gone_1 16 rfl rfl)
theorem dX5_gone_40 : decode cX5_gone 40 = .ok (.ireturn, 1) := dk_172 (dk_at dksX5_gone_1 17 rfl rfl)
abbrev cX5_sum : ByteArray := prog_14_method_14_code
def yX5_sum : MethodName := ⟨RX5, "sum", "(II)I"⟩
def dkwX5_sum_1 : List UInt8 := [132, 4, 1, 167, 255, 235, 29, 172]
abbrev dktX5_sum_1 : List UInt8 := dkwX5_sum_1 ++ []
def dkwX5_sum_0 : List UInt8 := [3, 62, 3, 54, 4, 21, 4, 28, 162, 0, 21, 29, 42, 180, 0, 7, 27, 21, 4, 96, 46, 96, 62]
abbrev dktX5_sum_0 : List UInt8 := dkwX5_sum_0 ++ dktX5_sum_1
theorem dksX5_sum_0 : cX5_sum.data.toList.drop 0 = dktX5_sum_0 := by decide +kernel
theorem dksX5_sum_1 : cX5_sum.data.toList.drop 23 = dktX5_sum_1 := dk_seg dksX5_sum_0 23 rfl rfl
theorem dX5_sum_0 : decode cX5_sum 0 = .ok (.iconst 0, 1) := dk_3 (dk_at dksX5_sum_0 0 rfl rfl)
theorem dX5_sum_1 : decode cX5_sum 1 = .ok (.istore_n 3, 1) := dk_62 (dk_at dksX5_sum_0 1 rfl rfl)
theorem dX5_sum_2 : decode cX5_sum 2 = .ok (.iconst 0, 1) := dk_3 (dk_at dksX5_sum_0 2 rfl rfl)
theorem dX5_sum_3 : decode cX5_sum 3 = .ok (.istore 4, 2) := dk_54 4 (dk_at dksX5_sum_0 3 rfl rfl)
theorem dX5_sum_5 : decode cX5_sum 5 = .ok (.iload 4, 2) := dk_21 4 (dk_at dksX5_sum_0 5 rfl rfl)
theorem dX5_sum_7 : decode cX5_sum 7 = .ok (.iload_n 2, 1) := dk_28 (dk_at dksX5_sum_0 7 rfl rfl)
theorem dX5_sum_8 : decode cX5_sum 8 = .ok (.if_icmp .ge 21, 3) := dk_162 0 21 (dk_at dksX5_sum_0 8 rfl rfl)
theorem dX5_sum_11 : decode cX5_sum 11 = .ok (.iload_n 3, 1) := dk_29 (dk_at dksX5_sum_0 11 rfl rfl)
theorem dX5_sum_12 : decode cX5_sum 12 = .ok (.aload_n 0, 1) := dk_42 (dk_at dksX5_sum_0 12 rfl rfl)
theorem dX5_sum_13 : decode cX5_sum 13 = .ok (.getfield 7, 3) := dk_180 0 7 (dk_at dksX5_sum_0 13 rfl rfl)
theorem dX5_sum_16 : decode cX5_sum 16 = .ok (.iload_n 1, 1) := dk_27 (dk_at dksX5_sum_0 16 rfl rfl)
theorem dX5_sum_17 : decode cX5_sum 17 = .ok (.iload 4, 2) := dk_21 4 (dk_at dksX5_sum_0 17 rfl rfl)
theorem dX5_sum_19 : decode cX5_sum 19 = .ok (.iadd, 1) := dk_96 (dk_at dksX5_sum_0 19 rfl rfl)
theorem dX5_sum_20 : decode cX5_sum 20 = .ok (.iaload, 1) := dk_46 (dk_at dksX5_sum_0 20 rfl rfl)
theorem dX5_sum_21 : decode cX5_sum 21 = .ok (.iadd, 1) := dk_96 (dk_at dksX5_sum_0 21 rfl rfl)
theorem dX5_sum_22 : decode cX5_sum 22 = .ok (.istore_n 3, 1) := dk_62 (dk_at dksX5_sum_0 22 rfl rfl)
theorem dX5_sum_23 : decode cX5_sum 23 = .ok (.iinc 4 1, 3) := dk_132 4 1 (dk_at dksX5_sum_1 0 rfl rfl)
theorem dX5_sum_26 : decode cX5_sum 26 = .ok (.goto (-21), 3) := dk_167 255 235 (dk_at dksX5_sum_1 3 rfl rfl)
theorem dX5_sum_29 : decode cX5_sum 29 = .ok (.iload_n 3, 1) := dk_29 (dk_at dksX5_sum_1 6 rfl rfl)
theorem dX5_sum_30 : decode cX5_sum 30 = .ok (.ireturn, 1) := dk_172 (dk_at dksX5_sum_1 7 rfl rfl)
theorem q58 : (Jvm.Cond.initialized "BarnPicturesModel") ∈ lw_all := lw_g (lw_at lw_m1 13 rfl) rfl
theorem q470 : (Jvm.Cond.selects "BarnPicturesModel" ({ cls := "java/lang/Object", name := "getClass", desc := "()Ljava/lang/Class;" } : Jvm.MethodName) ({ cls := "java/lang/Object", name := "getClass", desc := "()Ljava/lang/Class;" } : Jvm.MethodName)) ∈ lw_all := lw_g (lw_at lw_m2 185 rfl) rfl
theorem q1087 : (Jvm.Cond.instantiable "BarnPicturesModel" (16 : Nat)) ∈ lw_all := lw_g (lw_at lw_m5 82 rfl) rfl
theorem q1089 : (Jvm.Cond.instanceMethod ({ cls := "BarnPicturesModel", name := "<init>", desc := "()V" } : Jvm.MethodName)) ∈ lw_all := lw_g (lw_at lw_m5 84 rfl) rfl
theorem q1090 : (Jvm.Cond.code ({ cls := "BarnPicturesModel", name := "<init>", desc := "()V" } : Jvm.MethodName) prog_14_method_1_code (2 : Nat) (Option.none : Option Jvm.ClassFile.FieldType)) ∈ lw_all := lw_g (lw_at lw_m5 85 rfl) rfl
theorem q1091 : (Jvm.Cond.methodLink "BarnPicturesModel" (1 : Nat) ({ cls := "java/lang/Object", name := "<init>", desc := "()V" } : Jvm.MethodName)) ∈ lw_all := lw_g (lw_at lw_m5 86 rfl) rfl
theorem q1092 : (Jvm.Cond.constant "BarnPicturesModel" (25 : Nat) (-10000005 : Int32)) ∈ lw_all := lw_g (lw_at lw_m5 87 rfl) rfl
theorem q1093 : (Jvm.Cond.methodLink "BarnPicturesModel" (33 : Nat) ({ cls := "BarnPicturesModel", name := "of", desc := "(II)I" } : Jvm.MethodName)) ∈ lw_all := lw_g (lw_at lw_m5 88 rfl) rfl
theorem q1094 : (Jvm.Cond.static ({ cls := "BarnPicturesModel", name := "of", desc := "(II)I" } : Jvm.MethodName)) ∈ lw_all := lw_g (lw_at lw_m5 89 rfl) rfl
theorem q1095 : (Jvm.Cond.code ({ cls := "BarnPicturesModel", name := "of", desc := "(II)I" } : Jvm.MethodName) prog_14_method_4_code (2 : Nat) (Option.some Jvm.ClassFile.FieldType.int)) ∈ lw_all := lw_g (lw_at lw_m5 90 rfl) rfl
theorem q1096 : (Jvm.Cond.fieldLink "BarnPicturesModel" (7 : Nat) "BarnPicturesModel" "s" "[I") ∈ lw_all := lw_g (lw_at lw_m5 91 rfl) rfl
theorem q1097 : (Jvm.Cond.fieldLink "BarnPicturesModel" (13 : Nat) "BarnPicturesModel" "aside" "[I") ∈ lw_all := lw_g (lw_at lw_m5 92 rfl) rfl
theorem q1098 : (Jvm.Cond.fieldLink "BarnPicturesModel" (16 : Nat) "BarnPicturesModel" "before" "[I") ∈ lw_all := lw_g (lw_at lw_m5 93 rfl) rfl
theorem q1099 : (Jvm.Cond.fieldLink "BarnPicturesModel" (41 : Nat) "BarnPicturesModel" "known" "I") ∈ lw_all := lw_g (lw_at lw_m5 94 rfl) rfl
theorem q1100 : (Jvm.Cond.fieldLink "BarnPicturesModel" (19 : Nat) "BarnPicturesModel" "kept" "[I") ∈ lw_all := lw_g (lw_at lw_m5 95 rfl) rfl
theorem q1101 : (Jvm.Cond.fieldLink "BarnPicturesModel" (170 : Nat) "BarnPicturesModel" "isKept" "Z") ∈ lw_all := lw_g (lw_at lw_m5 96 rfl) rfl
theorem q1102 : (Jvm.Cond.fieldLink "BarnPicturesModel" (22 : Nat) "BarnPicturesModel" "text" "[I") ∈ lw_all := lw_g (lw_at lw_m5 97 rfl) rfl
theorem q1103 : (Jvm.Cond.fieldLink "BarnPicturesModel" (122 : Nat) "BarnPicturesModel" "typed" "I") ∈ lw_all := lw_g (lw_at lw_m5 98 rfl) rfl
theorem q1104 : (Jvm.Cond.fieldLink "BarnPicturesModel" (26 : Nat) "BarnPicturesModel" "stoppedAt" "I") ∈ lw_all := lw_g (lw_at lw_m5 99 rfl) rfl
theorem q1105 : (Jvm.Cond.fieldLink "BarnPicturesModel" (30 : Nat) "BarnPicturesModel" "stoppedBy" "I") ∈ lw_all := lw_g (lw_at lw_m5 100 rfl) rfl
theorem q1106 : (Jvm.Cond.fieldLink "BarnPicturesModel" (125 : Nat) "BarnPicturesModel" "at" "I") ∈ lw_all := lw_g (lw_at lw_m5 101 rfl) rfl
theorem q1107 : (Jvm.Cond.fieldLink "BarnPicturesModel" (128 : Nat) "BarnPicturesModel" "isWrong" "Z") ∈ lw_all := lw_g (lw_at lw_m5 102 rfl) rfl
theorem q1108 : (Jvm.Cond.fieldLink "BarnPicturesModel" (135 : Nat) "BarnPicturesModel" "letter" "I") ∈ lw_all := lw_g (lw_at lw_m5 103 rfl) rfl
theorem q1109 : (Jvm.Cond.fieldLink "BarnPicturesModel" (138 : Nat) "BarnPicturesModel" "one" "I") ∈ lw_all := lw_g (lw_at lw_m5 104 rfl) rfl
theorem q1110 : (Jvm.Cond.fieldLink "BarnPicturesModel" (144 : Nat) "BarnPicturesModel" "two" "I") ∈ lw_all := lw_g (lw_at lw_m5 105 rfl) rfl
theorem q1111 : (Jvm.Cond.fieldLink "BarnPicturesModel" (150 : Nat) "BarnPicturesModel" "fault" "I") ∈ lw_all := lw_g (lw_at lw_m5 106 rfl) rfl
theorem q1112 : (Jvm.Cond.laysFinal "BarnPicturesModel" "BarnPicturesModel" "s" "[I") ∈ lw_all := lw_g (lw_at lw_m5 107 rfl) rfl
theorem q1113 : (Jvm.Cond.soleField "BarnPicturesModel" "s") ∈ lw_all := lw_g (lw_at lw_m5 108 rfl) rfl
theorem q1114 : (Jvm.Cond.laysFinal "BarnPicturesModel" "BarnPicturesModel" "aside" "[I") ∈ lw_all := lw_g (lw_at lw_m5 109 rfl) rfl
theorem q1115 : (Jvm.Cond.soleField "BarnPicturesModel" "aside") ∈ lw_all := lw_g (lw_at lw_m5 110 rfl) rfl
theorem q1116 : (Jvm.Cond.laysFinal "BarnPicturesModel" "BarnPicturesModel" "before" "[I") ∈ lw_all := lw_g (lw_at lw_m5 111 rfl) rfl
theorem q1117 : (Jvm.Cond.soleField "BarnPicturesModel" "before") ∈ lw_all := lw_g (lw_at lw_m5 112 rfl) rfl
theorem q1118 : (Jvm.Cond.lays "BarnPicturesModel" "BarnPicturesModel" "known" "I") ∈ lw_all := lw_g (lw_at lw_m5 113 rfl) rfl
theorem q1119 : (Jvm.Cond.soleField "BarnPicturesModel" "known") ∈ lw_all := lw_g (lw_at lw_m5 114 rfl) rfl
theorem q1120 : (Jvm.Cond.laysFinal "BarnPicturesModel" "BarnPicturesModel" "kept" "[I") ∈ lw_all := lw_g (lw_at lw_m5 115 rfl) rfl
theorem q1121 : (Jvm.Cond.soleField "BarnPicturesModel" "kept") ∈ lw_all := lw_g (lw_at lw_m5 116 rfl) rfl
theorem q1122 : (Jvm.Cond.lays "BarnPicturesModel" "BarnPicturesModel" "isKept" "Z") ∈ lw_all := lw_g (lw_at lw_m5 117 rfl) rfl
theorem q1123 : (Jvm.Cond.soleField "BarnPicturesModel" "isKept") ∈ lw_all := lw_g (lw_at lw_m5 118 rfl) rfl
theorem q1124 : (Jvm.Cond.laysFinal "BarnPicturesModel" "BarnPicturesModel" "text" "[I") ∈ lw_all := lw_g (lw_at lw_m5 119 rfl) rfl
theorem q1125 : (Jvm.Cond.soleField "BarnPicturesModel" "text") ∈ lw_all := lw_g (lw_at lw_m5 120 rfl) rfl
theorem q1126 : (Jvm.Cond.lays "BarnPicturesModel" "BarnPicturesModel" "typed" "I") ∈ lw_all := lw_g (lw_at lw_m5 121 rfl) rfl
theorem q1127 : (Jvm.Cond.soleField "BarnPicturesModel" "typed") ∈ lw_all := lw_g (lw_at lw_m5 122 rfl) rfl
theorem q1128 : (Jvm.Cond.lays "BarnPicturesModel" "BarnPicturesModel" "stoppedAt" "I") ∈ lw_all := lw_g (lw_at lw_m5 123 rfl) rfl
theorem q1129 : (Jvm.Cond.soleField "BarnPicturesModel" "stoppedAt") ∈ lw_all := lw_g (lw_at lw_m5 124 rfl) rfl
theorem q1130 : (Jvm.Cond.lays "BarnPicturesModel" "BarnPicturesModel" "stoppedBy" "I") ∈ lw_all := lw_g (lw_at lw_m5 125 rfl) rfl
theorem q1131 : (Jvm.Cond.soleField "BarnPicturesModel" "stoppedBy") ∈ lw_all := lw_g (lw_at lw_m5 126 rfl) rfl
theorem q1132 : (Jvm.Cond.lays "BarnPicturesModel" "BarnPicturesModel" "at" "I") ∈ lw_all := lw_g (lw_at lw_m5 127 rfl) rfl
theorem q1133 : (Jvm.Cond.soleField "BarnPicturesModel" "at") ∈ lw_all := lw_g (lw_at lw_m5 128 rfl) rfl
theorem q1134 : (Jvm.Cond.lays "BarnPicturesModel" "BarnPicturesModel" "isWrong" "Z") ∈ lw_all := lw_g (lw_at lw_m5 129 rfl) rfl
theorem q1135 : (Jvm.Cond.soleField "BarnPicturesModel" "isWrong") ∈ lw_all := lw_g (lw_at lw_m5 130 rfl) rfl
theorem q1136 : (Jvm.Cond.lays "BarnPicturesModel" "BarnPicturesModel" "letter" "I") ∈ lw_all := lw_g (lw_at lw_m5 131 rfl) rfl
theorem q1137 : (Jvm.Cond.soleField "BarnPicturesModel" "letter") ∈ lw_all := lw_g (lw_at lw_m5 132 rfl) rfl
theorem q1138 : (Jvm.Cond.lays "BarnPicturesModel" "BarnPicturesModel" "one" "I") ∈ lw_all := lw_g (lw_at lw_m5 133 rfl) rfl
theorem q1139 : (Jvm.Cond.soleField "BarnPicturesModel" "one") ∈ lw_all := lw_g (lw_at lw_m5 134 rfl) rfl
theorem q1140 : (Jvm.Cond.lays "BarnPicturesModel" "BarnPicturesModel" "two" "I") ∈ lw_all := lw_g (lw_at lw_m5 135 rfl) rfl
theorem q1141 : (Jvm.Cond.soleField "BarnPicturesModel" "two") ∈ lw_all := lw_g (lw_at lw_m5 136 rfl) rfl
theorem q1142 : (Jvm.Cond.lays "BarnPicturesModel" "BarnPicturesModel" "fault" "I") ∈ lw_all := lw_g (lw_at lw_m5 137 rfl) rfl
theorem q1143 : (Jvm.Cond.soleField "BarnPicturesModel" "fault") ∈ lw_all := lw_g (lw_at lw_m5 138 rfl) rfl
theorem q1144 : (Jvm.Cond.superclass "BarnPicturesModel" "java/lang/Object") ∈ lw_all := lw_g (lw_at lw_m5 139 rfl) rfl
theorem q1146 : (Jvm.Cond.instanceMethod ({ cls := "BarnPicturesModel", name := "drive", desc := "(I)I" } : Jvm.MethodName)) ∈ lw_all := lw_g (lw_at lw_m5 141 rfl) rfl
theorem q1147 : (Jvm.Cond.selects "BarnPicturesModel" ({ cls := "BarnPicturesModel", name := "drive", desc := "(I)I" } : Jvm.MethodName) ({ cls := "BarnPicturesModel", name := "drive", desc := "(I)I" } : Jvm.MethodName)) ∈ lw_all := lw_g (lw_at lw_m5 142 rfl) rfl
theorem q1148 : (Jvm.Cond.code ({ cls := "BarnPicturesModel", name := "drive", desc := "(I)I" } : Jvm.MethodName) prog_14_method_29_code (2 : Nat) (Option.some Jvm.ClassFile.FieldType.int)) ∈ lw_all := lw_g (lw_at lw_m5 143 rfl) rfl
theorem q1149 : (Jvm.Cond.methodLink "BarnPicturesModel" (80 : Nat) ({ cls := "BarnPicturesModel", name := "isBarn", desc := "(I)Z" } : Jvm.MethodName)) ∈ lw_all := lw_g (lw_at lw_m5 144 rfl) rfl
theorem q1150 : (Jvm.Cond.static ({ cls := "BarnPicturesModel", name := "isBarn", desc := "(I)Z" } : Jvm.MethodName)) ∈ lw_all := lw_g (lw_at lw_m5 145 rfl) rfl
theorem q1151 : (Jvm.Cond.code ({ cls := "BarnPicturesModel", name := "isBarn", desc := "(I)Z" } : Jvm.MethodName) prog_14_method_5_code (1 : Nat) (Option.some Jvm.ClassFile.FieldType.boolean)) ∈ lw_all := lw_g (lw_at lw_m5 146 rfl) rfl
theorem q1152 : (Jvm.Cond.methodLink "BarnPicturesModel" (37 : Nat) ({ cls := "BarnPicturesModel", name := "in", desc := "(III)Z" } : Jvm.MethodName)) ∈ lw_all := lw_g (lw_at lw_m5 147 rfl) rfl
theorem q1153 : (Jvm.Cond.static ({ cls := "BarnPicturesModel", name := "in", desc := "(III)Z" } : Jvm.MethodName)) ∈ lw_all := lw_g (lw_at lw_m5 148 rfl) rfl
theorem q1154 : (Jvm.Cond.code ({ cls := "BarnPicturesModel", name := "in", desc := "(III)Z" } : Jvm.MethodName) prog_14_method_3_code (3 : Nat) (Option.some Jvm.ClassFile.FieldType.boolean)) ∈ lw_all := lw_g (lw_at lw_m5 149 rfl) rfl
theorem q1155 : (Jvm.Cond.constant "BarnPicturesModel" (58 : Nat) (-10000001 : Int32)) ∈ lw_all := lw_g (lw_at lw_m5 150 rfl) rfl
theorem q1156 : (Jvm.Cond.methodLink "BarnPicturesModel" (83 : Nat) ({ cls := "BarnPicturesModel", name := "know", desc := "()V" } : Jvm.MethodName)) ∈ lw_all := lw_g (lw_at lw_m5 151 rfl) rfl
theorem q1157 : (Jvm.Cond.privateMethod ({ cls := "BarnPicturesModel", name := "know", desc := "()V" } : Jvm.MethodName)) ∈ lw_tbl := lw_at lw_m5 152 rfl
theorem q1158 : (Jvm.Cond.instanceMethod ({ cls := "BarnPicturesModel", name := "know", desc := "()V" } : Jvm.MethodName)) ∈ lw_all := lw_g (lw_at lw_m5 153 rfl) rfl
theorem q1159 : (Jvm.Cond.code ({ cls := "BarnPicturesModel", name := "know", desc := "()V" } : Jvm.MethodName) prog_14_method_10_code (2 : Nat) (Option.none : Option Jvm.ClassFile.FieldType)) ∈ lw_all := lw_g (lw_at lw_m5 154 rfl) rfl
theorem q1160 : (Jvm.Cond.methodLink "BarnPicturesModel" (86 : Nat) ({ cls := "BarnPicturesModel", name := "drives", desc := "(I)I" } : Jvm.MethodName)) ∈ lw_all := lw_g (lw_at lw_m5 155 rfl) rfl
theorem q1161 : (Jvm.Cond.privateMethod ({ cls := "BarnPicturesModel", name := "drives", desc := "(I)I" } : Jvm.MethodName)) ∈ lw_tbl := lw_at lw_m5 156 rfl
theorem q1162 : (Jvm.Cond.instanceMethod ({ cls := "BarnPicturesModel", name := "drives", desc := "(I)I" } : Jvm.MethodName)) ∈ lw_all := lw_g (lw_at lw_m5 157 rfl) rfl
theorem q1163 : (Jvm.Cond.code ({ cls := "BarnPicturesModel", name := "drives", desc := "(I)I" } : Jvm.MethodName) prog_14_method_18_code (3 : Nat) (Option.some Jvm.ClassFile.FieldType.int)) ∈ lw_all := lw_g (lw_at lw_m5 158 rfl) rfl
theorem q1164 : (Jvm.Cond.methodLink "BarnPicturesModel" (50 : Nat) ({ cls := "BarnPicturesModel", name := "mile", desc := "(I)I" } : Jvm.MethodName)) ∈ lw_all := lw_g (lw_at lw_m5 159 rfl) rfl
theorem q1165 : (Jvm.Cond.static ({ cls := "BarnPicturesModel", name := "mile", desc := "(I)I" } : Jvm.MethodName)) ∈ lw_all := lw_g (lw_at lw_m5 160 rfl) rfl
theorem q1166 : (Jvm.Cond.code ({ cls := "BarnPicturesModel", name := "mile", desc := "(I)I" } : Jvm.MethodName) prog_14_method_8_code (1 : Nat) (Option.some Jvm.ClassFile.FieldType.int)) ∈ lw_all := lw_g (lw_at lw_m5 161 rfl) rfl
theorem q1168 : (Jvm.Cond.instanceMethod ({ cls := "BarnPicturesModel", name := "moveReel", desc := "(IZ)I" } : Jvm.MethodName)) ∈ lw_all := lw_g (lw_at lw_m5 163 rfl) rfl
theorem q1169 : (Jvm.Cond.selects "BarnPicturesModel" ({ cls := "BarnPicturesModel", name := "moveReel", desc := "(IZ)I" } : Jvm.MethodName) ({ cls := "BarnPicturesModel", name := "moveReel", desc := "(IZ)I" } : Jvm.MethodName)) ∈ lw_all := lw_g (lw_at lw_m5 164 rfl) rfl
theorem q1170 : (Jvm.Cond.code ({ cls := "BarnPicturesModel", name := "moveReel", desc := "(IZ)I" } : Jvm.MethodName) prog_14_method_31_code (4 : Nat) (Option.some Jvm.ClassFile.FieldType.int)) ∈ lw_all := lw_g (lw_at lw_m5 165 rfl) rfl
theorem q1171 : (Jvm.Cond.methodLink "BarnPicturesModel" (96 : Nat) ({ cls := "BarnPicturesModel", name := "isReel", desc := "(I)Z" } : Jvm.MethodName)) ∈ lw_all := lw_g (lw_at lw_m5 166 rfl) rfl
theorem q1172 : (Jvm.Cond.privateMethod ({ cls := "BarnPicturesModel", name := "isReel", desc := "(I)Z" } : Jvm.MethodName)) ∈ lw_tbl := lw_at lw_m5 167 rfl
theorem q1173 : (Jvm.Cond.instanceMethod ({ cls := "BarnPicturesModel", name := "isReel", desc := "(I)Z" } : Jvm.MethodName)) ∈ lw_all := lw_g (lw_at lw_m5 168 rfl) rfl
theorem q1174 : (Jvm.Cond.code ({ cls := "BarnPicturesModel", name := "isReel", desc := "(I)Z" } : Jvm.MethodName) prog_14_method_6_code (2 : Nat) (Option.some Jvm.ClassFile.FieldType.boolean)) ∈ lw_all := lw_g (lw_at lw_m5 169 rfl) rfl
theorem q1175 : (Jvm.Cond.methodLink "BarnPicturesModel" (99 : Nat) ({ cls := "BarnPicturesModel", name := "movesIf", desc := "(ZIZ)I" } : Jvm.MethodName)) ∈ lw_all := lw_g (lw_at lw_m5 170 rfl) rfl
theorem q1176 : (Jvm.Cond.privateMethod ({ cls := "BarnPicturesModel", name := "movesIf", desc := "(ZIZ)I" } : Jvm.MethodName)) ∈ lw_tbl := lw_at lw_m5 171 rfl
theorem q1177 : (Jvm.Cond.instanceMethod ({ cls := "BarnPicturesModel", name := "movesIf", desc := "(ZIZ)I" } : Jvm.MethodName)) ∈ lw_all := lw_g (lw_at lw_m5 172 rfl) rfl
theorem q1178 : (Jvm.Cond.code ({ cls := "BarnPicturesModel", name := "movesIf", desc := "(ZIZ)I" } : Jvm.MethodName) prog_14_method_30_code (5 : Nat) (Option.some Jvm.ClassFile.FieldType.int)) ∈ lw_all := lw_g (lw_at lw_m5 173 rfl) rfl
theorem q1179 : (Jvm.Cond.methodLink "BarnPicturesModel" (89 : Nat) ({ cls := "BarnPicturesModel", name := "moveFault", desc := "(IZ)I" } : Jvm.MethodName)) ∈ lw_all := lw_g (lw_at lw_m5 174 rfl) rfl
theorem q1180 : (Jvm.Cond.privateMethod ({ cls := "BarnPicturesModel", name := "moveFault", desc := "(IZ)I" } : Jvm.MethodName)) ∈ lw_tbl := lw_at lw_m5 175 rfl
theorem q1181 : (Jvm.Cond.instanceMethod ({ cls := "BarnPicturesModel", name := "moveFault", desc := "(IZ)I" } : Jvm.MethodName)) ∈ lw_all := lw_g (lw_at lw_m5 176 rfl) rfl
theorem q1182 : (Jvm.Cond.code ({ cls := "BarnPicturesModel", name := "moveFault", desc := "(IZ)I" } : Jvm.MethodName) prog_14_method_16_code (3 : Nat) (Option.some Jvm.ClassFile.FieldType.int)) ∈ lw_all := lw_g (lw_at lw_m5 177 rfl) rfl
theorem q1183 : (Jvm.Cond.constant "BarnPicturesModel" (44 : Nat) (-10000004 : Int32)) ∈ lw_all := lw_g (lw_at lw_m5 178 rfl) rfl
theorem q1184 : (Jvm.Cond.methodLink "BarnPicturesModel" (45 : Nat) ({ cls := "BarnPicturesModel", name := "inVan", desc := "()I" } : Jvm.MethodName)) ∈ lw_all := lw_g (lw_at lw_m5 179 rfl) rfl
theorem q1185 : (Jvm.Cond.privateMethod ({ cls := "BarnPicturesModel", name := "inVan", desc := "()I" } : Jvm.MethodName)) ∈ lw_tbl := lw_at lw_m5 180 rfl
theorem q1186 : (Jvm.Cond.instanceMethod ({ cls := "BarnPicturesModel", name := "inVan", desc := "()I" } : Jvm.MethodName)) ∈ lw_all := lw_g (lw_at lw_m5 181 rfl) rfl
theorem q1187 : (Jvm.Cond.code ({ cls := "BarnPicturesModel", name := "inVan", desc := "()I" } : Jvm.MethodName) prog_14_method_15_code (3 : Nat) (Option.some Jvm.ClassFile.FieldType.int)) ∈ lw_all := lw_g (lw_at lw_m5 182 rfl) rfl
theorem q1188 : (Jvm.Cond.constant "BarnPicturesModel" (49 : Nat) (-10000003 : Int32)) ∈ lw_all := lw_g (lw_at lw_m5 183 rfl) rfl
theorem q1189 : (Jvm.Cond.methodLink "BarnPicturesModel" (93 : Nat) ({ cls := "BarnPicturesModel", name := "moves", desc := "(IZ)I" } : Jvm.MethodName)) ∈ lw_all := lw_g (lw_at lw_m5 184 rfl) rfl
theorem q1190 : (Jvm.Cond.privateMethod ({ cls := "BarnPicturesModel", name := "moves", desc := "(IZ)I" } : Jvm.MethodName)) ∈ lw_tbl := lw_at lw_m5 185 rfl
theorem q1191 : (Jvm.Cond.instanceMethod ({ cls := "BarnPicturesModel", name := "moves", desc := "(IZ)I" } : Jvm.MethodName)) ∈ lw_all := lw_g (lw_at lw_m5 186 rfl) rfl
theorem q1192 : (Jvm.Cond.code ({ cls := "BarnPicturesModel", name := "moves", desc := "(IZ)I" } : Jvm.MethodName) prog_14_method_17_code (3 : Nat) (Option.some Jvm.ClassFile.FieldType.int)) ∈ lw_all := lw_g (lw_at lw_m5 187 rfl) rfl
theorem q1194 : (Jvm.Cond.instanceMethod ({ cls := "BarnPicturesModel", name := "moveGenerator", desc := "(IZ)I" } : Jvm.MethodName)) ∈ lw_all := lw_g (lw_at lw_m5 189 rfl) rfl
theorem q1195 : (Jvm.Cond.selects "BarnPicturesModel" ({ cls := "BarnPicturesModel", name := "moveGenerator", desc := "(IZ)I" } : Jvm.MethodName) ({ cls := "BarnPicturesModel", name := "moveGenerator", desc := "(IZ)I" } : Jvm.MethodName)) ∈ lw_all := lw_g (lw_at lw_m5 190 rfl) rfl
theorem q1196 : (Jvm.Cond.code ({ cls := "BarnPicturesModel", name := "moveGenerator", desc := "(IZ)I" } : Jvm.MethodName) prog_14_method_32_code (4 : Nat) (Option.some Jvm.ClassFile.FieldType.int)) ∈ lw_all := lw_g (lw_at lw_m5 191 rfl) rfl
theorem q1197 : (Jvm.Cond.methodLink "BarnPicturesModel" (54 : Nat) ({ cls := "BarnPicturesModel", name := "isGenerator", desc := "(I)Z" } : Jvm.MethodName)) ∈ lw_all := lw_g (lw_at lw_m5 192 rfl) rfl
theorem q1198 : (Jvm.Cond.static ({ cls := "BarnPicturesModel", name := "isGenerator", desc := "(I)Z" } : Jvm.MethodName)) ∈ lw_all := lw_g (lw_at lw_m5 193 rfl) rfl
theorem q1199 : (Jvm.Cond.code ({ cls := "BarnPicturesModel", name := "isGenerator", desc := "(I)Z" } : Jvm.MethodName) prog_14_method_7_code (1 : Nat) (Option.some Jvm.ClassFile.FieldType.boolean)) ∈ lw_all := lw_g (lw_at lw_m5 194 rfl) rfl
theorem q1201 : (Jvm.Cond.instanceMethod ({ cls := "BarnPicturesModel", name := "fuel", desc := "(II)I" } : Jvm.MethodName)) ∈ lw_all := lw_g (lw_at lw_m5 196 rfl) rfl
theorem q1202 : (Jvm.Cond.selects "BarnPicturesModel" ({ cls := "BarnPicturesModel", name := "fuel", desc := "(II)I" } : Jvm.MethodName) ({ cls := "BarnPicturesModel", name := "fuel", desc := "(II)I" } : Jvm.MethodName)) ∈ lw_all := lw_g (lw_at lw_m5 197 rfl) rfl
theorem q1203 : (Jvm.Cond.code ({ cls := "BarnPicturesModel", name := "fuel", desc := "(II)I" } : Jvm.MethodName) prog_14_method_33_code (4 : Nat) (Option.some Jvm.ClassFile.FieldType.int)) ∈ lw_all := lw_g (lw_at lw_m5 198 rfl) rfl
theorem q1204 : (Jvm.Cond.methodLink "BarnPicturesModel" (103 : Nat) ({ cls := "BarnPicturesModel", name := "fuelFault", desc := "(II)I" } : Jvm.MethodName)) ∈ lw_all := lw_g (lw_at lw_m5 199 rfl) rfl
theorem q1205 : (Jvm.Cond.privateMethod ({ cls := "BarnPicturesModel", name := "fuelFault", desc := "(II)I" } : Jvm.MethodName)) ∈ lw_tbl := lw_at lw_m5 200 rfl
theorem q1206 : (Jvm.Cond.instanceMethod ({ cls := "BarnPicturesModel", name := "fuelFault", desc := "(II)I" } : Jvm.MethodName)) ∈ lw_all := lw_g (lw_at lw_m5 201 rfl) rfl
theorem q1207 : (Jvm.Cond.code ({ cls := "BarnPicturesModel", name := "fuelFault", desc := "(II)I" } : Jvm.MethodName) prog_14_method_19_code (3 : Nat) (Option.some Jvm.ClassFile.FieldType.int)) ∈ lw_all := lw_g (lw_at lw_m5 202 rfl) rfl
theorem q1208 : (Jvm.Cond.constant "BarnPicturesModel" (59 : Nat) (-10000002 : Int32)) ∈ lw_all := lw_g (lw_at lw_m5 203 rfl) rfl
theorem q1209 : (Jvm.Cond.methodLink "BarnPicturesModel" (106 : Nat) ({ cls := "BarnPicturesModel", name := "fuels", desc := "(II)I" } : Jvm.MethodName)) ∈ lw_all := lw_g (lw_at lw_m5 204 rfl) rfl
theorem q1210 : (Jvm.Cond.privateMethod ({ cls := "BarnPicturesModel", name := "fuels", desc := "(II)I" } : Jvm.MethodName)) ∈ lw_tbl := lw_at lw_m5 205 rfl
theorem q1211 : (Jvm.Cond.instanceMethod ({ cls := "BarnPicturesModel", name := "fuels", desc := "(II)I" } : Jvm.MethodName)) ∈ lw_all := lw_g (lw_at lw_m5 206 rfl) rfl
theorem q1212 : (Jvm.Cond.code ({ cls := "BarnPicturesModel", name := "fuels", desc := "(II)I" } : Jvm.MethodName) prog_14_method_20_code (3 : Nat) (Option.some Jvm.ClassFile.FieldType.int)) ∈ lw_all := lw_g (lw_at lw_m5 207 rfl) rfl
theorem q1214 : (Jvm.Cond.instanceMethod ({ cls := "BarnPicturesModel", name := "renew", desc := "(I)I" } : Jvm.MethodName)) ∈ lw_all := lw_g (lw_at lw_m5 209 rfl) rfl
theorem q1215 : (Jvm.Cond.selects "BarnPicturesModel" ({ cls := "BarnPicturesModel", name := "renew", desc := "(I)I" } : Jvm.MethodName) ({ cls := "BarnPicturesModel", name := "renew", desc := "(I)I" } : Jvm.MethodName)) ∈ lw_all := lw_g (lw_at lw_m5 210 rfl) rfl
theorem q1216 : (Jvm.Cond.code ({ cls := "BarnPicturesModel", name := "renew", desc := "(I)I" } : Jvm.MethodName) prog_14_method_34_code (2 : Nat) (Option.some Jvm.ClassFile.FieldType.int)) ∈ lw_all := lw_g (lw_at lw_m5 211 rfl) rfl
theorem q1218 : (Jvm.Cond.instanceMethod ({ cls := "BarnPicturesModel", name := "setPrice", desc := "(I)I" } : Jvm.MethodName)) ∈ lw_all := lw_g (lw_at lw_m5 213 rfl) rfl
theorem q1219 : (Jvm.Cond.selects "BarnPicturesModel" ({ cls := "BarnPicturesModel", name := "setPrice", desc := "(I)I" } : Jvm.MethodName) ({ cls := "BarnPicturesModel", name := "setPrice", desc := "(I)I" } : Jvm.MethodName)) ∈ lw_all := lw_g (lw_at lw_m5 214 rfl) rfl
theorem q1220 : (Jvm.Cond.code ({ cls := "BarnPicturesModel", name := "setPrice", desc := "(I)I" } : Jvm.MethodName) prog_14_method_35_code (2 : Nat) (Option.some Jvm.ClassFile.FieldType.int)) ∈ lw_all := lw_g (lw_at lw_m5 215 rfl) rfl
theorem q1221 : (Jvm.Cond.methodLink "BarnPicturesModel" (109 : Nat) ({ cls := "BarnPicturesModel", name := "puts", desc := "(II)I" } : Jvm.MethodName)) ∈ lw_all := lw_g (lw_at lw_m5 216 rfl) rfl
theorem q1222 : (Jvm.Cond.privateMethod ({ cls := "BarnPicturesModel", name := "puts", desc := "(II)I" } : Jvm.MethodName)) ∈ lw_tbl := lw_at lw_m5 217 rfl
theorem q1223 : (Jvm.Cond.instanceMethod ({ cls := "BarnPicturesModel", name := "puts", desc := "(II)I" } : Jvm.MethodName)) ∈ lw_all := lw_g (lw_at lw_m5 218 rfl) rfl
theorem q1224 : (Jvm.Cond.code ({ cls := "BarnPicturesModel", name := "puts", desc := "(II)I" } : Jvm.MethodName) prog_14_method_13_code (4 : Nat) (Option.some Jvm.ClassFile.FieldType.int)) ∈ lw_all := lw_g (lw_at lw_m5 219 rfl) rfl
theorem q1226 : (Jvm.Cond.instanceMethod ({ cls := "BarnPicturesModel", name := "show", desc := "(I)I" } : Jvm.MethodName)) ∈ lw_all := lw_g (lw_at lw_m5 221 rfl) rfl
theorem q1227 : (Jvm.Cond.selects "BarnPicturesModel" ({ cls := "BarnPicturesModel", name := "show", desc := "(I)I" } : Jvm.MethodName) ({ cls := "BarnPicturesModel", name := "show", desc := "(I)I" } : Jvm.MethodName)) ∈ lw_all := lw_g (lw_at lw_m5 222 rfl) rfl
theorem q1228 : (Jvm.Cond.code ({ cls := "BarnPicturesModel", name := "show", desc := "(I)I" } : Jvm.MethodName) prog_14_method_36_code (3 : Nat) (Option.some Jvm.ClassFile.FieldType.int)) ∈ lw_all := lw_g (lw_at lw_m5 223 rfl) rfl
theorem q1229 : (Jvm.Cond.methodLink "BarnPicturesModel" (112 : Nat) ({ cls := "BarnPicturesModel", name := "why", desc := "(I)I" } : Jvm.MethodName)) ∈ lw_all := lw_g (lw_at lw_m5 224 rfl) rfl
theorem q1230 : (Jvm.Cond.privateMethod ({ cls := "BarnPicturesModel", name := "why", desc := "(I)I" } : Jvm.MethodName)) ∈ lw_tbl := lw_at lw_m5 225 rfl
theorem q1231 : (Jvm.Cond.instanceMethod ({ cls := "BarnPicturesModel", name := "why", desc := "(I)I" } : Jvm.MethodName)) ∈ lw_all := lw_g (lw_at lw_m5 226 rfl) rfl
theorem q1232 : (Jvm.Cond.code ({ cls := "BarnPicturesModel", name := "why", desc := "(I)I" } : Jvm.MethodName) prog_14_method_23_code (2 : Nat) (Option.some Jvm.ClassFile.FieldType.int)) ∈ lw_all := lw_g (lw_at lw_m5 227 rfl) rfl
theorem q1233 : (Jvm.Cond.methodLink "BarnPicturesModel" (60 : Nat) ({ cls := "BarnPicturesModel", name := "reels", desc := "(II)I" } : Jvm.MethodName)) ∈ lw_all := lw_g (lw_at lw_m5 228 rfl) rfl
theorem q1234 : (Jvm.Cond.privateMethod ({ cls := "BarnPicturesModel", name := "reels", desc := "(II)I" } : Jvm.MethodName)) ∈ lw_tbl := lw_at lw_m5 229 rfl
theorem q1235 : (Jvm.Cond.instanceMethod ({ cls := "BarnPicturesModel", name := "reels", desc := "(II)I" } : Jvm.MethodName)) ∈ lw_all := lw_g (lw_at lw_m5 230 rfl) rfl
theorem q1236 : (Jvm.Cond.code ({ cls := "BarnPicturesModel", name := "reels", desc := "(II)I" } : Jvm.MethodName) prog_14_method_21_code (8 : Nat) (Option.some Jvm.ClassFile.FieldType.int)) ∈ lw_all := lw_g (lw_at lw_m5 231 rfl) rfl
theorem q1237 : (Jvm.Cond.methodLink "BarnPicturesModel" (63 : Nat) ({ cls := "BarnPicturesModel", name := "generatorFor", desc := "(II)I" } : Jvm.MethodName)) ∈ lw_all := lw_g (lw_at lw_m5 232 rfl) rfl
theorem q1238 : (Jvm.Cond.privateMethod ({ cls := "BarnPicturesModel", name := "generatorFor", desc := "(II)I" } : Jvm.MethodName)) ∈ lw_tbl := lw_at lw_m5 233 rfl
theorem q1239 : (Jvm.Cond.instanceMethod ({ cls := "BarnPicturesModel", name := "generatorFor", desc := "(II)I" } : Jvm.MethodName)) ∈ lw_all := lw_g (lw_at lw_m5 234 rfl) rfl
theorem q1240 : (Jvm.Cond.code ({ cls := "BarnPicturesModel", name := "generatorFor", desc := "(II)I" } : Jvm.MethodName) prog_14_method_22_code (4 : Nat) (Option.some Jvm.ClassFile.FieldType.int)) ∈ lw_all := lw_g (lw_at lw_m5 235 rfl) rfl
theorem q1241 : (Jvm.Cond.constant "BarnPicturesModel" (115 : Nat) (-10000010 : Int32)) ∈ lw_all := lw_g (lw_at lw_m5 236 rfl) rfl
theorem q1242 : (Jvm.Cond.methodLink "BarnPicturesModel" (116 : Nat) ({ cls := "BarnPicturesModel", name := "shows", desc := "(I)I" } : Jvm.MethodName)) ∈ lw_all := lw_g (lw_at lw_m5 237 rfl) rfl
theorem q1243 : (Jvm.Cond.privateMethod ({ cls := "BarnPicturesModel", name := "shows", desc := "(I)I" } : Jvm.MethodName)) ∈ lw_tbl := lw_at lw_m5 238 rfl
theorem q1244 : (Jvm.Cond.instanceMethod ({ cls := "BarnPicturesModel", name := "shows", desc := "(I)I" } : Jvm.MethodName)) ∈ lw_all := lw_g (lw_at lw_m5 239 rfl) rfl
theorem q1245 : (Jvm.Cond.code ({ cls := "BarnPicturesModel", name := "shows", desc := "(I)I" } : Jvm.MethodName) prog_14_method_27_code (6 : Nat) (Option.some Jvm.ClassFile.FieldType.int)) ∈ lw_all := lw_g (lw_at lw_m6 0 rfl) rfl
theorem q1246 : (Jvm.Cond.methodLink "BarnPicturesModel" (69 : Nat) ({ cls := "BarnPicturesModel", name := "peopleAt", desc := "(I)I" } : Jvm.MethodName)) ∈ lw_all := lw_g (lw_at lw_m6 1 rfl) rfl
theorem q1247 : (Jvm.Cond.privateMethod ({ cls := "BarnPicturesModel", name := "peopleAt", desc := "(I)I" } : Jvm.MethodName)) ∈ lw_tbl := lw_at lw_m6 2 rfl
theorem q1248 : (Jvm.Cond.instanceMethod ({ cls := "BarnPicturesModel", name := "peopleAt", desc := "(I)I" } : Jvm.MethodName)) ∈ lw_all := lw_g (lw_at lw_m6 3 rfl) rfl
theorem q1249 : (Jvm.Cond.code ({ cls := "BarnPicturesModel", name := "peopleAt", desc := "(I)I" } : Jvm.MethodName) prog_14_method_24_code (4 : Nat) (Option.some Jvm.ClassFile.FieldType.int)) ∈ lw_all := lw_g (lw_at lw_m6 4 rfl) rfl
theorem q1250 : (Jvm.Cond.methodLink "BarnPicturesModel" (66 : Nat) ({ cls := "BarnPicturesModel", name := "seats", desc := "(I)I" } : Jvm.MethodName)) ∈ lw_all := lw_g (lw_at lw_m6 5 rfl) rfl
theorem q1251 : (Jvm.Cond.static ({ cls := "BarnPicturesModel", name := "seats", desc := "(I)I" } : Jvm.MethodName)) ∈ lw_all := lw_g (lw_at lw_m6 6 rfl) rfl
theorem q1252 : (Jvm.Cond.code ({ cls := "BarnPicturesModel", name := "seats", desc := "(I)I" } : Jvm.MethodName) prog_14_method_9_code (1 : Nat) (Option.some Jvm.ClassFile.FieldType.int)) ∈ lw_all := lw_g (lw_at lw_m6 7 rfl) rfl
theorem q1253 : (Jvm.Cond.methodLink "BarnPicturesModel" (72 : Nat) ({ cls := "BarnPicturesModel", name := "wear", desc := "(II)V" } : Jvm.MethodName)) ∈ lw_all := lw_g (lw_at lw_m6 8 rfl) rfl
theorem q1254 : (Jvm.Cond.privateMethod ({ cls := "BarnPicturesModel", name := "wear", desc := "(II)V" } : Jvm.MethodName)) ∈ lw_tbl := lw_at lw_m6 9 rfl
theorem q1255 : (Jvm.Cond.instanceMethod ({ cls := "BarnPicturesModel", name := "wear", desc := "(II)V" } : Jvm.MethodName)) ∈ lw_all := lw_g (lw_at lw_m6 10 rfl) rfl
theorem q1256 : (Jvm.Cond.code ({ cls := "BarnPicturesModel", name := "wear", desc := "(II)V" } : Jvm.MethodName) prog_14_method_25_code (3 : Nat) (Option.none : Option Jvm.ClassFile.FieldType)) ∈ lw_all := lw_g (lw_at lw_m6 11 rfl) rfl
theorem q1257 : (Jvm.Cond.methodLink "BarnPicturesModel" (76 : Nat) ({ cls := "BarnPicturesModel", name := "log", desc := "(IIII)V" } : Jvm.MethodName)) ∈ lw_all := lw_g (lw_at lw_m6 12 rfl) rfl
theorem q1258 : (Jvm.Cond.privateMethod ({ cls := "BarnPicturesModel", name := "log", desc := "(IIII)V" } : Jvm.MethodName)) ∈ lw_tbl := lw_at lw_m6 13 rfl
theorem q1259 : (Jvm.Cond.instanceMethod ({ cls := "BarnPicturesModel", name := "log", desc := "(IIII)V" } : Jvm.MethodName)) ∈ lw_all := lw_g (lw_at lw_m6 14 rfl) rfl
theorem q1260 : (Jvm.Cond.code ({ cls := "BarnPicturesModel", name := "log", desc := "(IIII)V" } : Jvm.MethodName) prog_14_method_26_code (6 : Nat) (Option.none : Option Jvm.ClassFile.FieldType)) ∈ lw_all := lw_g (lw_at lw_m6 15 rfl) rfl
theorem q1262 : (Jvm.Cond.instanceMethod ({ cls := "BarnPicturesModel", name := "nextDay", desc := "()I" } : Jvm.MethodName)) ∈ lw_all := lw_g (lw_at lw_m6 17 rfl) rfl
theorem q1263 : (Jvm.Cond.selects "BarnPicturesModel" ({ cls := "BarnPicturesModel", name := "nextDay", desc := "()I" } : Jvm.MethodName) ({ cls := "BarnPicturesModel", name := "nextDay", desc := "()I" } : Jvm.MethodName)) ∈ lw_all := lw_g (lw_at lw_m6 18 rfl) rfl
theorem q1264 : (Jvm.Cond.code ({ cls := "BarnPicturesModel", name := "nextDay", desc := "()I" } : Jvm.MethodName) prog_14_method_37_code (1 : Nat) (Option.some Jvm.ClassFile.FieldType.int)) ∈ lw_all := lw_g (lw_at lw_m6 19 rfl) rfl
theorem q1265 : (Jvm.Cond.methodLink "BarnPicturesModel" (119 : Nat) ({ cls := "BarnPicturesModel", name := "begins", desc := "()I" } : Jvm.MethodName)) ∈ lw_all := lw_g (lw_at lw_m6 20 rfl) rfl
theorem q1266 : (Jvm.Cond.privateMethod ({ cls := "BarnPicturesModel", name := "begins", desc := "()I" } : Jvm.MethodName)) ∈ lw_tbl := lw_at lw_m6 21 rfl
theorem q1267 : (Jvm.Cond.instanceMethod ({ cls := "BarnPicturesModel", name := "begins", desc := "()I" } : Jvm.MethodName)) ∈ lw_all := lw_g (lw_at lw_m6 22 rfl) rfl
theorem q1268 : (Jvm.Cond.code ({ cls := "BarnPicturesModel", name := "begins", desc := "()I" } : Jvm.MethodName) prog_14_method_28_code (2 : Nat) (Option.some Jvm.ClassFile.FieldType.int)) ∈ lw_all := lw_g (lw_at lw_m6 23 rfl) rfl
theorem q1270 : (Jvm.Cond.instanceMethod ({ cls := "BarnPicturesModel", name := "type", desc := "(C)I" } : Jvm.MethodName)) ∈ lw_all := lw_g (lw_at lw_m6 25 rfl) rfl
theorem q1271 : (Jvm.Cond.selects "BarnPicturesModel" ({ cls := "BarnPicturesModel", name := "type", desc := "(C)I" } : Jvm.MethodName) ({ cls := "BarnPicturesModel", name := "type", desc := "(C)I" } : Jvm.MethodName)) ∈ lw_all := lw_g (lw_at lw_m6 26 rfl) rfl
theorem q1272 : (Jvm.Cond.code ({ cls := "BarnPicturesModel", name := "type", desc := "(C)I" } : Jvm.MethodName) prog_14_method_38_code (2 : Nat) (Option.some Jvm.ClassFile.FieldType.int)) ∈ lw_all := lw_g (lw_at lw_m6 27 rfl) rfl
theorem q1274 : (Jvm.Cond.instanceMethod ({ cls := "BarnPicturesModel", name := "clearText", desc := "()I" } : Jvm.MethodName)) ∈ lw_all := lw_g (lw_at lw_m6 29 rfl) rfl
theorem q1275 : (Jvm.Cond.selects "BarnPicturesModel" ({ cls := "BarnPicturesModel", name := "clearText", desc := "()I" } : Jvm.MethodName) ({ cls := "BarnPicturesModel", name := "clearText", desc := "()I" } : Jvm.MethodName)) ∈ lw_all := lw_g (lw_at lw_m6 30 rfl) rfl
theorem q1276 : (Jvm.Cond.code ({ cls := "BarnPicturesModel", name := "clearText", desc := "()I" } : Jvm.MethodName) prog_14_method_39_code (2 : Nat) (Option.some Jvm.ClassFile.FieldType.int)) ∈ lw_all := lw_g (lw_at lw_m6 31 rfl) rfl
theorem q1278 : (Jvm.Cond.instanceMethod ({ cls := "BarnPicturesModel", name := "perform", desc := "()I" } : Jvm.MethodName)) ∈ lw_all := lw_g (lw_at lw_m6 33 rfl) rfl
theorem q1279 : (Jvm.Cond.selects "BarnPicturesModel" ({ cls := "BarnPicturesModel", name := "perform", desc := "()I" } : Jvm.MethodName) ({ cls := "BarnPicturesModel", name := "perform", desc := "()I" } : Jvm.MethodName)) ∈ lw_all := lw_g (lw_at lw_m6 34 rfl) rfl
theorem q1280 : (Jvm.Cond.code ({ cls := "BarnPicturesModel", name := "perform", desc := "()I" } : Jvm.MethodName) prog_14_method_46_code (2 : Nat) (Option.some Jvm.ClassFile.FieldType.int)) ∈ lw_all := lw_g (lw_at lw_m6 35 rfl) rfl
theorem q1281 : (Jvm.Cond.methodLink "BarnPicturesModel" (159 : Nat) ({ cls := "BarnPicturesModel", name := "go", desc := "(Z)I" } : Jvm.MethodName)) ∈ lw_all := lw_g (lw_at lw_m6 36 rfl) rfl
theorem q1282 : (Jvm.Cond.privateMethod ({ cls := "BarnPicturesModel", name := "go", desc := "(Z)I" } : Jvm.MethodName)) ∈ lw_tbl := lw_at lw_m6 37 rfl
theorem q1283 : (Jvm.Cond.instanceMethod ({ cls := "BarnPicturesModel", name := "go", desc := "(Z)I" } : Jvm.MethodName)) ∈ lw_all := lw_g (lw_at lw_m6 38 rfl) rfl
theorem q1284 : (Jvm.Cond.code ({ cls := "BarnPicturesModel", name := "go", desc := "(Z)I" } : Jvm.MethodName) prog_14_method_45_code (5 : Nat) (Option.some Jvm.ClassFile.FieldType.int)) ∈ lw_all := lw_g (lw_at lw_m6 39 rfl) rfl
theorem q1285 : (Jvm.Cond.methodLink "BarnPicturesModel" (153 : Nat) ({ cls := "BarnPicturesModel", name := "read", desc := "()V" } : Jvm.MethodName)) ∈ lw_all := lw_g (lw_at lw_m6 40 rfl) rfl
theorem q1286 : (Jvm.Cond.privateMethod ({ cls := "BarnPicturesModel", name := "read", desc := "()V" } : Jvm.MethodName)) ∈ lw_tbl := lw_at lw_m6 41 rfl
theorem q1287 : (Jvm.Cond.instanceMethod ({ cls := "BarnPicturesModel", name := "read", desc := "()V" } : Jvm.MethodName)) ∈ lw_all := lw_g (lw_at lw_m6 42 rfl) rfl
theorem q1288 : (Jvm.Cond.code ({ cls := "BarnPicturesModel", name := "read", desc := "()V" } : Jvm.MethodName) prog_14_method_42_code (3 : Nat) (Option.none : Option Jvm.ClassFile.FieldType)) ∈ lw_all := lw_g (lw_at lw_m6 43 rfl) rfl
theorem q1289 : (Jvm.Cond.methodLink "BarnPicturesModel" (132 : Nat) ({ cls := "BarnPicturesModel", name := "sign", desc := "(II)I" } : Jvm.MethodName)) ∈ lw_all := lw_g (lw_at lw_m6 44 rfl) rfl
theorem q1290 : (Jvm.Cond.privateMethod ({ cls := "BarnPicturesModel", name := "sign", desc := "(II)I" } : Jvm.MethodName)) ∈ lw_tbl := lw_at lw_m6 45 rfl
theorem q1291 : (Jvm.Cond.instanceMethod ({ cls := "BarnPicturesModel", name := "sign", desc := "(II)I" } : Jvm.MethodName)) ∈ lw_all := lw_g (lw_at lw_m6 46 rfl) rfl
theorem q1292 : (Jvm.Cond.code ({ cls := "BarnPicturesModel", name := "sign", desc := "(II)I" } : Jvm.MethodName) prog_14_method_40_code (4 : Nat) (Option.some Jvm.ClassFile.FieldType.int)) ∈ lw_all := lw_g (lw_at lw_m6 47 rfl) rfl
theorem q1293 : (Jvm.Cond.methodLink "BarnPicturesModel" (141 : Nat) ({ cls := "BarnPicturesModel", name := "minutes", desc := "()I" } : Jvm.MethodName)) ∈ lw_all := lw_g (lw_at lw_m6 48 rfl) rfl
theorem q1294 : (Jvm.Cond.privateMethod ({ cls := "BarnPicturesModel", name := "minutes", desc := "()I" } : Jvm.MethodName)) ∈ lw_tbl := lw_at lw_m6 49 rfl
theorem q1295 : (Jvm.Cond.instanceMethod ({ cls := "BarnPicturesModel", name := "minutes", desc := "()I" } : Jvm.MethodName)) ∈ lw_all := lw_g (lw_at lw_m6 50 rfl) rfl
theorem q1296 : (Jvm.Cond.code ({ cls := "BarnPicturesModel", name := "minutes", desc := "()I" } : Jvm.MethodName) prog_14_method_41_code (2 : Nat) (Option.some Jvm.ClassFile.FieldType.int)) ∈ lw_all := lw_g (lw_at lw_m6 51 rfl) rfl
theorem q1297 : (Jvm.Cond.methodLink "BarnPicturesModel" (156 : Nat) ({ cls := "BarnPicturesModel", name := "does", desc := "()I" } : Jvm.MethodName)) ∈ lw_all := lw_g (lw_at lw_m6 52 rfl) rfl
theorem q1298 : (Jvm.Cond.privateMethod ({ cls := "BarnPicturesModel", name := "does", desc := "()I" } : Jvm.MethodName)) ∈ lw_tbl := lw_at lw_m6 53 rfl
theorem q1299 : (Jvm.Cond.instanceMethod ({ cls := "BarnPicturesModel", name := "does", desc := "()I" } : Jvm.MethodName)) ∈ lw_all := lw_g (lw_at lw_m6 54 rfl) rfl
theorem q1300 : (Jvm.Cond.code ({ cls := "BarnPicturesModel", name := "does", desc := "()I" } : Jvm.MethodName) prog_14_method_44_code (4 : Nat) (Option.some Jvm.ClassFile.FieldType.int)) ∈ lw_all := lw_g (lw_at lw_m6 55 rfl) rfl
theorem q1301 : (Jvm.Cond.methodLink "BarnPicturesModel" (147 : Nat) ({ cls := "BarnPicturesModel", name := "wrong", desc := "()I" } : Jvm.MethodName)) ∈ lw_all := lw_g (lw_at lw_m6 56 rfl) rfl
theorem q1302 : (Jvm.Cond.privateMethod ({ cls := "BarnPicturesModel", name := "wrong", desc := "()I" } : Jvm.MethodName)) ∈ lw_tbl := lw_at lw_m6 57 rfl
theorem q1303 : (Jvm.Cond.instanceMethod ({ cls := "BarnPicturesModel", name := "wrong", desc := "()I" } : Jvm.MethodName)) ∈ lw_all := lw_g (lw_at lw_m6 58 rfl) rfl
theorem q1304 : (Jvm.Cond.code ({ cls := "BarnPicturesModel", name := "wrong", desc := "()I" } : Jvm.MethodName) prog_14_method_43_code (1 : Nat) (Option.some Jvm.ClassFile.FieldType.int)) ∈ lw_all := lw_g (lw_at lw_m6 59 rfl) rfl
theorem q1305 : (Jvm.Cond.constant "BarnPicturesModel" (163 : Nat) (-10000200 : Int32)) ∈ lw_all := lw_g (lw_at lw_m6 60 rfl) rfl
theorem q1306 : (Jvm.Cond.methodLink "BarnPicturesModel" (164 : Nat) ({ cls := "BarnPicturesModel", name := "putAside", desc := "()V" } : Jvm.MethodName)) ∈ lw_all := lw_g (lw_at lw_m6 61 rfl) rfl
theorem q1307 : (Jvm.Cond.privateMethod ({ cls := "BarnPicturesModel", name := "putAside", desc := "()V" } : Jvm.MethodName)) ∈ lw_tbl := lw_at lw_m6 62 rfl
theorem q1308 : (Jvm.Cond.instanceMethod ({ cls := "BarnPicturesModel", name := "putAside", desc := "()V" } : Jvm.MethodName)) ∈ lw_all := lw_g (lw_at lw_m6 63 rfl) rfl
theorem q1309 : (Jvm.Cond.code ({ cls := "BarnPicturesModel", name := "putAside", desc := "()V" } : Jvm.MethodName) prog_14_method_11_code (2 : Nat) (Option.none : Option Jvm.ClassFile.FieldType)) ∈ lw_all := lw_g (lw_at lw_m6 64 rfl) rfl
theorem q1310 : (Jvm.Cond.methodLink "BarnPicturesModel" (167 : Nat) ({ cls := "BarnPicturesModel", name := "putBack", desc := "()V" } : Jvm.MethodName)) ∈ lw_all := lw_g (lw_at lw_m6 65 rfl) rfl
theorem q1311 : (Jvm.Cond.privateMethod ({ cls := "BarnPicturesModel", name := "putBack", desc := "()V" } : Jvm.MethodName)) ∈ lw_tbl := lw_at lw_m6 66 rfl
theorem q1312 : (Jvm.Cond.instanceMethod ({ cls := "BarnPicturesModel", name := "putBack", desc := "()V" } : Jvm.MethodName)) ∈ lw_all := lw_g (lw_at lw_m6 67 rfl) rfl
theorem q1313 : (Jvm.Cond.code ({ cls := "BarnPicturesModel", name := "putBack", desc := "()V" } : Jvm.MethodName) prog_14_method_12_code (2 : Nat) (Option.none : Option Jvm.ClassFile.FieldType)) ∈ lw_all := lw_g (lw_at lw_m6 68 rfl) rfl
theorem q1315 : (Jvm.Cond.instanceMethod ({ cls := "BarnPicturesModel", name := "stopped", desc := "(I)I" } : Jvm.MethodName)) ∈ lw_all := lw_g (lw_at lw_m6 70 rfl) rfl
theorem q1316 : (Jvm.Cond.selects "BarnPicturesModel" ({ cls := "BarnPicturesModel", name := "stopped", desc := "(I)I" } : Jvm.MethodName) ({ cls := "BarnPicturesModel", name := "stopped", desc := "(I)I" } : Jvm.MethodName)) ∈ lw_all := lw_g (lw_at lw_m6 71 rfl) rfl
theorem q1317 : (Jvm.Cond.code ({ cls := "BarnPicturesModel", name := "stopped", desc := "(I)I" } : Jvm.MethodName) prog_14_method_47_code (2 : Nat) (Option.some Jvm.ClassFile.FieldType.int)) ∈ lw_all := lw_g (lw_at lw_m6 72 rfl) rfl
theorem q1319 : (Jvm.Cond.instanceMethod ({ cls := "BarnPicturesModel", name := "undo", desc := "()I" } : Jvm.MethodName)) ∈ lw_all := lw_g (lw_at lw_m6 74 rfl) rfl
theorem q1320 : (Jvm.Cond.selects "BarnPicturesModel" ({ cls := "BarnPicturesModel", name := "undo", desc := "()I" } : Jvm.MethodName) ({ cls := "BarnPicturesModel", name := "undo", desc := "()I" } : Jvm.MethodName)) ∈ lw_all := lw_g (lw_at lw_m6 75 rfl) rfl
theorem q1321 : (Jvm.Cond.code ({ cls := "BarnPicturesModel", name := "undo", desc := "()I" } : Jvm.MethodName) prog_14_method_48_code (2 : Nat) (Option.some Jvm.ClassFile.FieldType.int)) ∈ lw_all := lw_g (lw_at lw_m6 76 rfl) rfl
theorem q1323 : (Jvm.Cond.instanceMethod ({ cls := "BarnPicturesModel", name := "keep", desc := "()I" } : Jvm.MethodName)) ∈ lw_all := lw_g (lw_at lw_m6 78 rfl) rfl
theorem q1324 : (Jvm.Cond.selects "BarnPicturesModel" ({ cls := "BarnPicturesModel", name := "keep", desc := "()I" } : Jvm.MethodName) ({ cls := "BarnPicturesModel", name := "keep", desc := "()I" } : Jvm.MethodName)) ∈ lw_all := lw_g (lw_at lw_m6 79 rfl) rfl
theorem q1325 : (Jvm.Cond.code ({ cls := "BarnPicturesModel", name := "keep", desc := "()I" } : Jvm.MethodName) prog_14_method_49_code (2 : Nat) (Option.some Jvm.ClassFile.FieldType.int)) ∈ lw_all := lw_g (lw_at lw_m6 80 rfl) rfl
theorem q1327 : (Jvm.Cond.instanceMethod ({ cls := "BarnPicturesModel", name := "restore", desc := "()I" } : Jvm.MethodName)) ∈ lw_all := lw_g (lw_at lw_m6 82 rfl) rfl
theorem q1328 : (Jvm.Cond.selects "BarnPicturesModel" ({ cls := "BarnPicturesModel", name := "restore", desc := "()I" } : Jvm.MethodName) ({ cls := "BarnPicturesModel", name := "restore", desc := "()I" } : Jvm.MethodName)) ∈ lw_all := lw_g (lw_at lw_m6 83 rfl) rfl
theorem q1329 : (Jvm.Cond.code ({ cls := "BarnPicturesModel", name := "restore", desc := "()I" } : Jvm.MethodName) prog_14_method_50_code (2 : Nat) (Option.some Jvm.ClassFile.FieldType.int)) ∈ lw_all := lw_g (lw_at lw_m6 84 rfl) rfl
theorem q1331 : (Jvm.Cond.instanceMethod ({ cls := "BarnPicturesModel", name := "reel", desc := "(II)I" } : Jvm.MethodName)) ∈ lw_all := lw_g (lw_at lw_m6 86 rfl) rfl
theorem q1332 : (Jvm.Cond.selects "BarnPicturesModel" ({ cls := "BarnPicturesModel", name := "reel", desc := "(II)I" } : Jvm.MethodName) ({ cls := "BarnPicturesModel", name := "reel", desc := "(II)I" } : Jvm.MethodName)) ∈ lw_all := lw_g (lw_at lw_m6 87 rfl) rfl
theorem q1333 : (Jvm.Cond.code ({ cls := "BarnPicturesModel", name := "reel", desc := "(II)I" } : Jvm.MethodName) prog_14_method_52_code (3 : Nat) (Option.some Jvm.ClassFile.FieldType.int)) ∈ lw_all := lw_g (lw_at lw_m6 88 rfl) rfl
theorem q1334 : (Jvm.Cond.methodLink "BarnPicturesModel" (173 : Nat) ({ cls := "BarnPicturesModel", name := "bears", desc := "(I)I" } : Jvm.MethodName)) ∈ lw_all := lw_g (lw_at lw_m6 89 rfl) rfl
theorem q1335 : (Jvm.Cond.privateMethod ({ cls := "BarnPicturesModel", name := "bears", desc := "(I)I" } : Jvm.MethodName)) ∈ lw_tbl := lw_at lw_m6 90 rfl
theorem q1336 : (Jvm.Cond.instanceMethod ({ cls := "BarnPicturesModel", name := "bears", desc := "(I)I" } : Jvm.MethodName)) ∈ lw_all := lw_g (lw_at lw_m6 91 rfl) rfl
theorem q1337 : (Jvm.Cond.code ({ cls := "BarnPicturesModel", name := "bears", desc := "(I)I" } : Jvm.MethodName) prog_14_method_51_code (5 : Nat) (Option.some Jvm.ClassFile.FieldType.int)) ∈ lw_all := lw_g (lw_at lw_m6 92 rfl) rfl
theorem q1339 : (Jvm.Cond.instanceMethod ({ cls := "BarnPicturesModel", name := "generator", desc := "(II)I" } : Jvm.MethodName)) ∈ lw_all := lw_g (lw_at lw_m6 94 rfl) rfl
theorem q1340 : (Jvm.Cond.selects "BarnPicturesModel" ({ cls := "BarnPicturesModel", name := "generator", desc := "(II)I" } : Jvm.MethodName) ({ cls := "BarnPicturesModel", name := "generator", desc := "(II)I" } : Jvm.MethodName)) ∈ lw_all := lw_g (lw_at lw_m6 95 rfl) rfl
theorem q1341 : (Jvm.Cond.code ({ cls := "BarnPicturesModel", name := "generator", desc := "(II)I" } : Jvm.MethodName) prog_14_method_53_code (3 : Nat) (Option.some Jvm.ClassFile.FieldType.int)) ∈ lw_all := lw_g (lw_at lw_m6 96 rfl) rfl
theorem q1343 : (Jvm.Cond.instanceMethod ({ cls := "BarnPicturesModel", name := "barn", desc := "(II)I" } : Jvm.MethodName)) ∈ lw_all := lw_g (lw_at lw_m6 98 rfl) rfl
theorem q1344 : (Jvm.Cond.selects "BarnPicturesModel" ({ cls := "BarnPicturesModel", name := "barn", desc := "(II)I" } : Jvm.MethodName) ({ cls := "BarnPicturesModel", name := "barn", desc := "(II)I" } : Jvm.MethodName)) ∈ lw_all := lw_g (lw_at lw_m6 99 rfl) rfl
theorem q1345 : (Jvm.Cond.code ({ cls := "BarnPicturesModel", name := "barn", desc := "(II)I" } : Jvm.MethodName) prog_14_method_54_code (3 : Nat) (Option.some Jvm.ClassFile.FieldType.int)) ∈ lw_all := lw_g (lw_at lw_m6 100 rfl) rfl
theorem q1347 : (Jvm.Cond.instanceMethod ({ cls := "BarnPicturesModel", name := "bestBarn", desc := "()I" } : Jvm.MethodName)) ∈ lw_all := lw_g (lw_at lw_m6 102 rfl) rfl
theorem q1348 : (Jvm.Cond.selects "BarnPicturesModel" ({ cls := "BarnPicturesModel", name := "bestBarn", desc := "()I" } : Jvm.MethodName) ({ cls := "BarnPicturesModel", name := "bestBarn", desc := "()I" } : Jvm.MethodName)) ∈ lw_all := lw_g (lw_at lw_m6 103 rfl) rfl
theorem q1349 : (Jvm.Cond.code ({ cls := "BarnPicturesModel", name := "bestBarn", desc := "()I" } : Jvm.MethodName) prog_14_method_55_code (4 : Nat) (Option.some Jvm.ClassFile.FieldType.int)) ∈ lw_all := lw_g (lw_at lw_m6 104 rfl) rfl
theorem q1351 : (Jvm.Cond.instanceMethod ({ cls := "BarnPicturesModel", name := "ifPrice", desc := "(II)I" } : Jvm.MethodName)) ∈ lw_all := lw_g (lw_at lw_m6 106 rfl) rfl
theorem q1352 : (Jvm.Cond.selects "BarnPicturesModel" ({ cls := "BarnPicturesModel", name := "ifPrice", desc := "(II)I" } : Jvm.MethodName) ({ cls := "BarnPicturesModel", name := "ifPrice", desc := "(II)I" } : Jvm.MethodName)) ∈ lw_all := lw_g (lw_at lw_m6 107 rfl) rfl
theorem q1353 : (Jvm.Cond.code ({ cls := "BarnPicturesModel", name := "ifPrice", desc := "(II)I" } : Jvm.MethodName) prog_14_method_56_code (3 : Nat) (Option.some Jvm.ClassFile.FieldType.int)) ∈ lw_all := lw_g (lw_at lw_m6 108 rfl) rfl
theorem q1355 : (Jvm.Cond.instanceMethod ({ cls := "BarnPicturesModel", name := "showOf", desc := "(II)I" } : Jvm.MethodName)) ∈ lw_all := lw_g (lw_at lw_m6 110 rfl) rfl
theorem q1356 : (Jvm.Cond.selects "BarnPicturesModel" ({ cls := "BarnPicturesModel", name := "showOf", desc := "(II)I" } : Jvm.MethodName) ({ cls := "BarnPicturesModel", name := "showOf", desc := "(II)I" } : Jvm.MethodName)) ∈ lw_all := lw_g (lw_at lw_m6 111 rfl) rfl
theorem q1357 : (Jvm.Cond.code ({ cls := "BarnPicturesModel", name := "showOf", desc := "(II)I" } : Jvm.MethodName) prog_14_method_57_code (3 : Nat) (Option.some Jvm.ClassFile.FieldType.int)) ∈ lw_all := lw_g (lw_at lw_m6 112 rfl) rfl
theorem q1359 : (Jvm.Cond.instanceMethod ({ cls := "BarnPicturesModel", name := "count", desc := "(I)I" } : Jvm.MethodName)) ∈ lw_all := lw_g (lw_at lw_m6 114 rfl) rfl
theorem q1360 : (Jvm.Cond.selects "BarnPicturesModel" ({ cls := "BarnPicturesModel", name := "count", desc := "(I)I" } : Jvm.MethodName) ({ cls := "BarnPicturesModel", name := "count", desc := "(I)I" } : Jvm.MethodName)) ∈ lw_all := lw_g (lw_at lw_m6 115 rfl) rfl
theorem q1361 : (Jvm.Cond.code ({ cls := "BarnPicturesModel", name := "count", desc := "(I)I" } : Jvm.MethodName) prog_14_method_59_code (2 : Nat) (Option.some Jvm.ClassFile.FieldType.int)) ∈ lw_all := lw_g (lw_at lw_m6 116 rfl) rfl
theorem q1362 : (Jvm.Cond.methodLink "BarnPicturesModel" (176 : Nat) ({ cls := "BarnPicturesModel", name := "gone", desc := "()I" } : Jvm.MethodName)) ∈ lw_all := lw_g (lw_at lw_m6 117 rfl) rfl
theorem q1363 : (Jvm.Cond.privateMethod ({ cls := "BarnPicturesModel", name := "gone", desc := "()I" } : Jvm.MethodName)) ∈ lw_tbl := lw_at lw_m6 118 rfl
theorem q1364 : (Jvm.Cond.instanceMethod ({ cls := "BarnPicturesModel", name := "gone", desc := "()I" } : Jvm.MethodName)) ∈ lw_all := lw_g (lw_at lw_m6 119 rfl) rfl
theorem q1365 : (Jvm.Cond.code ({ cls := "BarnPicturesModel", name := "gone", desc := "()I" } : Jvm.MethodName) prog_14_method_58_code (3 : Nat) (Option.some Jvm.ClassFile.FieldType.int)) ∈ lw_all := lw_g (lw_at lw_m6 120 rfl) rfl
theorem q1366 : (Jvm.Cond.methodLink "BarnPicturesModel" (179 : Nat) ({ cls := "BarnPicturesModel", name := "sum", desc := "(II)I" } : Jvm.MethodName)) ∈ lw_all := lw_g (lw_at lw_m6 121 rfl) rfl
theorem q1367 : (Jvm.Cond.privateMethod ({ cls := "BarnPicturesModel", name := "sum", desc := "(II)I" } : Jvm.MethodName)) ∈ lw_tbl := lw_at lw_m6 122 rfl
theorem q1368 : (Jvm.Cond.instanceMethod ({ cls := "BarnPicturesModel", name := "sum", desc := "(II)I" } : Jvm.MethodName)) ∈ lw_all := lw_g (lw_at lw_m6 123 rfl) rfl
theorem q1369 : (Jvm.Cond.code ({ cls := "BarnPicturesModel", name := "sum", desc := "(II)I" } : Jvm.MethodName) prog_14_method_14_code (5 : Nat) (Option.some Jvm.ClassFile.FieldType.int)) ∈ lw_all := lw_g (lw_at lw_m6 124 rfl) rfl
theorem q1388 : (Jvm.Cond.castable "BarnPicturesModel" "java/lang/Object") ∈ lw_tbl := lw_at lw_m6 143 rfl
theorem in_X5 : ∀ w ∈ wsX50, w ∈ lw_all := lw_in wsX50 [1112, 1114, 1116, 1118, 1120, 1122, 1124, 1126, 1128, 1130, 1132, 1134, 1136, 1138, 1140, 1142] (by decide +kernel) (by decide +kernel)
