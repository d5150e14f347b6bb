/-! GuestView$Reader -/
set_option maxRecDepth 100000
def RX2 : String := "GuestView$Reader"
def TX2 : u_T := fun k => match k with
  | 0 => ("GuestView$Reader", "tape", "[B", true)
  | 1 => ("GuestView$Reader", "words", "[Ljava/lang/String;", true)
  | 2 => ("GuestView$Reader", "tags", "[Ljava/lang/String;", true)
  | 3 => ("GuestView$Reader", "micros", "[Ljava/lang/String;", true)
  | 4 => ("GuestView$Reader", "row", "[LGuestView$Line;", true)
  | 5 => ("GuestView$Reader", "draft", "LGuestView$State;", true)
  | 6 => ("GuestView$Reader", "wrong", "LGuestView$Wrong;", true)
  | 7 => ("GuestView$Reader", "size", "I", false)
  | 8 => ("GuestView$Reader", "end", "I", false)
  | 9 => ("GuestView$Reader", "at", "I", false)
  | _ => ("GuestView$Reader", "deep", "I", false)
def tyX2 : Nat → FieldType := fun k => match k with
  | 0 => .array .byte
  | 1 => .array (.object "java/lang/String")
  | 2 => .array (.object "java/lang/String")
  | 3 => .array (.object "java/lang/String")
  | 4 => .array (.object "GuestView$Line")
  | 5 => .object "GuestView$State"
  | 6 => .object "GuestView$Wrong"
  | 7 => .int
  | 8 => .int
  | 9 => .int
  | _ => .int
abbrev wsX20 : List Cond := u_ws RX2 TX2 11
theorem nmX2 : ∀ a, a < 11 → ∀ b, b < 11 → a ≠ b → (TX2 a).2.1 ≠ (TX2 b).2.1 := by decide +kernel
theorem tyX2_ok : ∀ k, k < 11 → parseFieldDescriptor (TX2 k).2.2.1 = some (tyX2 k) := by decide +kernel
abbrev cX2_init : ByteArray := prog_12_method_1_code
def yX2_init : MethodName := ⟨RX2, "<init>", "()V"⟩
def dkwX2_init_7 : List UInt8 := [181, 0, 77, 42, 187, 0, 81, 89, 183, 0, 83, 181, 0, 84, 177]
abbrev dktX2_init_7 : List UInt8 := dkwX2_init_7 ++ []
def dkwX2_init_6 : List UInt8 := [18, 64, 83, 181, 0, 66, 42, 16, 12, 189, 0, 68, 181, 0, 70, 42, 187, 0, 74, 89, 183, 0, 76]
abbrev dktX2_init_6 : List UInt8 := dkwX2_init_6 ++ dktX2_init_7
def dkwX2_init_5 : List UInt8 := [18, 56, 83, 89, 16, 7, 18, 58, 83, 89, 16, 8, 18, 60, 83, 89, 16, 9, 18, 62, 83, 89, 16, 10]
abbrev dktX2_init_5 : List UInt8 := dkwX2_init_5 ++ dktX2_init_6
def dkwX2_init_4 : List UInt8 := [83, 89, 5, 18, 48, 83, 89, 6, 18, 50, 83, 89, 7, 18, 52, 83, 89, 8, 18, 54, 83, 89, 16, 6]
abbrev dktX2_init_4 : List UInt8 := dkwX2_init_4 ++ dktX2_init_5
def dkwX2_init_3 : List UInt8 := [83, 89, 5, 18, 39, 83, 181, 0, 41, 42, 16, 11, 189, 0, 15, 89, 3, 18, 44, 83, 89, 4, 18, 46]
abbrev dktX2_init_3 : List UInt8 := dkwX2_init_3 ++ dktX2_init_4
def dkwX2_init_2 : List UInt8 := [83, 89, 16, 6, 18, 29, 83, 181, 0, 31, 42, 6, 189, 0, 15, 89, 3, 18, 35, 83, 89, 4, 18, 37]
abbrev dktX2_init_2 : List UInt8 := dkwX2_init_2 ++ dktX2_init_3
def dkwX2_init_1 : List UInt8 := [89, 4, 18, 19, 83, 89, 5, 18, 21, 83, 89, 6, 18, 23, 83, 89, 7, 18, 25, 83, 89, 8, 18, 27]
abbrev dktX2_init_1 : List UInt8 := dkwX2_init_1 ++ dktX2_init_2
def dkwX2_init_0 : List UInt8 := [42, 183, 0, 3, 42, 17, 1, 144, 188, 8, 181, 0, 9, 42, 16, 7, 189, 0, 15, 89, 3, 18, 17, 83]
abbrev dktX2_init_0 : List UInt8 := dkwX2_init_0 ++ dktX2_init_1
theorem dksX2_init_0 : cX2_init.data.toList.drop 0 = dktX2_init_0 := by decide +kernel
theorem dksX2_init_1 : cX2_init.data.toList.drop 24 = dktX2_init_1 := dk_seg dksX2_init_0 24 rfl rfl
theorem dksX2_init_2 : cX2_init.data.toList.drop 48 = dktX2_init_2 := dk_seg dksX2_init_1 24 rfl rfl
theorem dksX2_init_3 : cX2_init.data.toList.drop 72 = dktX2_init_3 := dk_seg dksX2_init_2 24 rfl rfl
theorem dksX2_init_4 : cX2_init.data.toList.drop 96 = dktX2_init_4 := dk_seg dksX2_init_3 24 rfl rfl
theorem dksX2_init_5 : cX2_init.data.toList.drop 120 = dktX2_init_5 := dk_seg dksX2_init_4 24 rfl rfl
theorem dksX2_init_6 : cX2_init.data.toList.drop 144 = dktX2_init_6 := dk_seg dksX2_init_5 24 rfl rfl
theorem dksX2_init_7 : cX2_init.data.toList.drop 167 = dktX2_init_7 := dk_seg dksX2_init_6 23 rfl rfl
theorem dX2_init_0 : decode cX2_init 0 = .ok (.aload_n 0, 1) := dk_42 (dk_at dksX2_init_0 0 rfl rfl)
theorem dX2_init_1 : decode cX2_init 1 = .ok (.invokespecial 3, 3) := dk_183 0 3 (dk_at dksX2_init_0 1 rfl rfl)
theorem dX2_init_4 : decode cX2_init 4 = .ok (.aload_n 0, 1) := dk_42 (dk_at dksX2_init_0 4 rfl rfl)
theorem dX2_init_5 : decode cX2_init 5 = .ok (.sipush 400, 3) := dk_17 1 144 (dk_at dksX2_init_0 5 rfl rfl)
theorem dX2_init_8 : decode cX2_init 8 = .ok (.newarray .byte, 2) := dk_188_8 (dk_at dksX2_init_0 8 rfl rfl)
theorem dX2_init_10 : decode cX2_init 10 = .ok (.putfield 9, 3) := dk_181 0 9 (dk_at dksX2_init_0 10 rfl rfl)
theorem dX2_init_13 : decode cX2_init 13 = .ok (.aload_n 0, 1) := dk_42 (dk_at dksX2_init_0 13 rfl rfl)
theorem dX2_init_14 : decode cX2_init 14 = .ok (.bipush 7, 2) := dk_16 7 (dk_at dksX2_init_0 14 rfl rfl)
theorem dX2_init_16 : decode cX2_init 16 = .ok (.anewarray 15, 3) := dk_189 0 15 (dk_at dksX2_init_0 16 rfl rfl)
theorem dX2_init_19 : decode cX2_init 19 = .ok (.dup, 1) := dk_89 (dk_at dksX2_init_0 19 rfl rfl)
theorem dX2_init_20 : decode cX2_init 20 = .ok (.iconst 0, 1) := dk_3 (dk_at dksX2_init_0 20 rfl rfl)
theorem dX2_init_21 : decode cX2_init 21 = .ok (.ldc 17, 2) := dk_18 17 (dk_at dksX2_init_0 21 rfl rfl)
theorem dX2_init_23 : decode cX2_init 23 = .ok (.aastore, 1) := dk_83 (dk_at dksX2_init_0 23 rfl rfl)
theorem dX2_init_24 : decode cX2_init 24 = .ok (.dup, 1) := dk_89 (dk_at dksX2_init_1 0 rfl rfl)
theorem dX2_init_25 : decode cX2_init 25 = .ok (.iconst 1, 1) := dk_4 (dk_at dksX2_init_1 1 rfl rfl)
theorem dX2_init_26 : decode cX2_init 26 = .ok (.ldc 19, 2) := dk_18 19 (dk_at dksX2_init_1 2 rfl rfl)
theorem dX2_init_28 : decode cX2_init 28 = .ok (.aastore, 1) := dk_83 (dk_at dksX2_init_1 4 rfl rfl)
theorem dX2_init_29 : decode cX2_init 29 = .ok (.dup, 1) := dk_89 (dk_at dksX2_init_1 5 rfl rfl)
theorem dX2_init_30 : decode cX2_init 30 = .ok (.iconst 2, 1) := dk_5 (dk_at dksX2_init_1 6 rfl rfl)
theorem dX2_init_31 : decode cX2_init 31 = .ok (.ldc 21, 2) := dk_18 21 (dk_at dksX2_init_1 7 rfl rfl)
theorem dX2_init_33 : decode cX2_init 33 = .ok (.aastore, 1) := dk_83 (dk_at dksX2_init_1 9 rfl rfl)
theorem dX2_init_34 : decode cX2_init 34 = .ok (.dup, 1) := dk_89 (dk_at dksX2_init_1 10 rfl rfl)
theorem dX2_init_35 : decode cX2_init 35 = .ok (.iconst 3, 1) := dk_6 (dk_at dksX2_init_1 11 rfl rfl)
theorem dX2_init_36 : decode cX2_init 36 = .ok (.ldc 23, 2) := dk_18 23 (dk_at dksX2_init_1 12 rfl rfl)
theorem dX2_init_38 : decode cX2_init 38 = .ok (.aastore, 1) := dk_83 (dk_at dksX2_init_1 14 rfl rfl)
theorem dX2_init_39 : decode cX2_init 39 = .ok (.dup, 1) := dk_89 (dk_at dksX2_init_1 15 rfl rfl)
theorem dX2_init_40 : decode cX2_init 40 = .ok (.iconst 4, 1) := dk_7 (dk_at dksX2_init_1 16 rfl rfl)
theorem dX2_init_41 : decode cX2_init 41 = .ok (.ldc 25, 2) := dk_18 25 (dk_at dksX2_init_1 17 rfl rfl)
theorem dX2_init_43 : decode cX2_init 43 = .ok (.aastore, 1) := dk_83 (dk_at dksX2_init_1 19 rfl rfl)
theorem dX2_init_44 : decode cX2_init 44 = .ok (.dup, 1) := dk_89 (dk_at dksX2_init_1 20 rfl rfl)
theorem dX2_init_45 : decode cX2_init 45 = .ok (.iconst 5, 1) := dk_8 (dk_at dksX2_init_1 21 rfl rfl)
theorem dX2_init_46 : decode cX2_init 46 = .ok (.ldc 27, 2) := dk_18 27 (dk_at dksX2_init_1 22 rfl rfl)
theorem dX2_init_48 : decode cX2_init 48 = .ok (.aastore, 1) := dk_83 (dk_at dksX2_init_2 0 rfl rfl)
theorem dX2_init_49 : decode cX2_init 49 = .ok (.dup, 1) := dk_89 (dk_at dksX2_init_2 1 rfl rfl)
theorem dX2_init_50 : decode cX2_init 50 = .ok (.bipush 6, 2) := dk_16 6 (dk_at dksX2_init_2 2 rfl rfl)
theorem dX2_init_52 : decode cX2_init 52 = .ok (.ldc 29, 2) := dk_18 29 (dk_at dksX2_init_2 4 rfl rfl)
theorem dX2_init_54 : decode cX2_init 54 = .ok (.aastore, 1) := dk_83 (dk_at dksX2_init_2 6 rfl rfl)
theorem dX2_init_55 : decode cX2_init 55 = .ok (.putfield 31, 3) := dk_181 0 31 (dk_at dksX2_init_2 7 rfl rfl)
theorem dX2_init_58 : decode cX2_init 58 = .ok (.aload_n 0, 1) := dk_42 (dk_at dksX2_init_2 10 rfl rfl)
theorem dX2_init_59 : decode cX2_init 59 = .ok (.iconst 3, 1) := dk_6 (dk_at dksX2_init_2 11 rfl rfl)
theorem dX2_init_60 : decode cX2_init 60 = .ok (.anewarray 15, 3) := dk_189 0 15 (dk_at dksX2_init_2 12 rfl rfl)
theorem dX2_init_63 : decode cX2_init 63 = .ok (.dup, 1) := dk_89 (dk_at dksX2_init_2 15 rfl rfl)
theorem dX2_init_64 : decode cX2_init 64 = .ok (.iconst 0, 1) := dk_3 (dk_at dksX2_init_2 16 rfl rfl)
theorem dX2_init_65 : decode cX2_init 65 = .ok (.ldc 35, 2) := dk_18 35 (dk_at dksX2_init_2 17 rfl rfl)
theorem dX2_init_67 : decode cX2_init 67 = .ok (.aastore, 1) := dk_83 (dk_at dksX2_init_2 19 rfl rfl)
theorem dX2_init_68 : decode cX2_init 68 = .ok (.dup, 1) := dk_89 (dk_at dksX2_init_2 20 rfl rfl)
theorem dX2_init_69 : decode cX2_init 69 = .ok (.iconst 1, 1) := dk_4 (dk_at dksX2_init_2 21 rfl rfl)
theorem dX2_init_70 : decode cX2_init 70 = .ok (.ldc 37, 2) := dk_18 37 (dk_at dksX2_init_2 22 rfl rfl)
theorem dX2_init_72 : decode cX2_init 72 = .ok (.aastore, 1) := dk_83 (dk_at dksX2_init_3 0 rfl rfl)
theorem dX2_init_73 : decode cX2_init 73 = .ok (.dup, 1) := dk_89 (dk_at dksX2_init_3 1 rfl rfl)
theorem dX2_init_74 : decode cX2_init 74 = .ok (.iconst 2, 1) := dk_5 (dk_at dksX2_init_3 2 rfl rfl)
theorem dX2_init_75 : decode cX2_init 75 = .ok (.ldc 39, 2) := dk_18 39 (dk_at dksX2_init_3 3 rfl rfl)
theorem dX2_init_77 : decode cX2_init 77 = .ok (.aastore, 1) := dk_83 (dk_at dksX2_init_3 5 rfl rfl)
theorem dX2_init_78 : decode cX2_init 78 = .ok (.putfield 41, 3) := dk_181 0 41 (dk_at dksX2_init_3 6 rfl rfl)
theorem dX2_init_81 : decode cX2_init 81 = .ok (.aload_n 0, 1) := dk_42 (dk_at dksX2_init_3 9 rfl rfl)
theorem dX2_init_82 : decode cX2_init 82 = .ok (.bipush 11, 2) := dk_16 11 (dk_at dksX2_init_3 10 rfl rfl)
theorem dX2_init_84 : decode cX2_init 84 = .ok (.anewarray 15, 3) := dk_189 0 15 (dk_at dksX2_init_3 12 rfl rfl)
theorem dX2_init_87 : decode cX2_init 87 = .ok (.dup, 1) := dk_89 (dk_at dksX2_init_3 15 rfl rfl)
theorem dX2_init_88 : decode cX2_init 88 = .ok (.iconst 0, 1) := dk_3 (dk_at dksX2_init_3 16 rfl rfl)
theorem dX2_init_89 : decode cX2_init 89 = .ok (.ldc 44, 2) := dk_18 44 (dk_at dksX2_init_3 17 rfl rfl)
theorem dX2_init_91 : decode cX2_init 91 = .ok (.aastore, 1) := dk_83 (dk_at dksX2_init_3 19 rfl rfl)
theorem dX2_init_92 : decode cX2_init 92 = .ok (.dup, 1) := dk_89 (dk_at dksX2_init_3 20 rfl rfl)
theorem dX2_init_93 : decode cX2_init 93 = .ok (.iconst 1, 1) := dk_4 (dk_at dksX2_init_3 21 rfl rfl)
theorem dX2_init_94 : decode cX2_init 94 = .ok (.ldc 46, 2) := dk_18 46 (dk_at dksX2_init_3 22 rfl rfl)
theorem dX2_init_96 : decode cX2_init 96 = .ok (.aastore, 1) := dk_83 (dk_at dksX2_init_4 0 rfl rfl)
theorem dX2_init_97 : decode cX2_init 97 = .ok (.dup, 1) := dk_89 (dk_at dksX2_init_4 1 rfl rfl)
theorem dX2_init_98 : decode cX2_init 98 = .ok (.iconst 2, 1) := dk_5 (dk_at dksX2_init_4 2 rfl rfl)
theorem dX2_init_99 : decode cX2_init 99 = .ok (.ldc 48, 2) := dk_18 48 (dk_at dksX2_init_4 3 rfl rfl)
theorem dX2_init_101 : decode cX2_init 101 = .ok (.aastore, 1) := dk_83 (dk_at dksX2_init_4 5 rfl rfl)
theorem dX2_init_102 : decode cX2_init 102 = .ok (.dup, 1) := dk_89 (dk_at dksX2_init_4 6 rfl rfl)
theorem dX2_init_103 : decode cX2_init 103 = .ok (.iconst 3, 1) := dk_6 (dk_at dksX2_init_4 7 rfl rfl)
theorem dX2_init_104 : decode cX2_init 104 = .ok (.ldc 50, 2) := dk_18 50 (dk_at dksX2_init_4 8 rfl rfl)
theorem dX2_init_106 : decode cX2_init 106 = .ok (.aastore, 1) := dk_83 (dk_at dksX2_init_4 10 rfl rfl)
theorem dX2_init_107 : decode cX2_init 107 = .ok (.dup, 1) := dk_89 (dk_at dksX2_init_4 11 rfl rfl)
theorem dX2_init_108 : decode cX2_init 108 = .ok (.iconst 4, 1) := dk_7 (dk_at dksX2_init_4 12 rfl rfl)
theorem dX2_init_109 : decode cX2_init 109 = .ok (.ldc 52, 2) := dk_18 52 (dk_at dksX2_init_4 13 rfl rfl)
theorem dX2_init_111 : decode cX2_init 111 = .ok (.aastore, 1) := dk_83 (dk_at dksX2_init_4 15 rfl rfl)
theorem dX2_init_112 : decode cX2_init 112 = .ok (.dup, 1) := dk_89 (dk_at dksX2_init_4 16 rfl rfl)
theorem dX2_init_113 : decode cX2_init 113 = .ok (.iconst 5, 1) := dk_8 (dk_at dksX2_init_4 17 rfl rfl)
theorem dX2_init_114 : decode cX2_init 114 = .ok (.ldc 54, 2) := dk_18 54 (dk_at dksX2_init_4 18 rfl rfl)
theorem dX2_init_116 : decode cX2_init 116 = .ok (.aastore, 1) := dk_83 (dk_at dksX2_init_4 20 rfl rfl)
theorem dX2_init_117 : decode cX2_init 117 = .ok (.dup, 1) := dk_89 (dk_at dksX2_init_4 21 rfl rfl)
theorem dX2_init_118 : decode cX2_init 118 = .ok (.bipush 6, 2) := dk_16 6 (dk_at dksX2_init_4 22 rfl rfl)
theorem dX2_init_120 : decode cX2_init 120 = .ok (.ldc 56, 2) := dk_18 56 (dk_at dksX2_init_5 0 rfl rfl)
theorem dX2_init_122 : decode cX2_init 122 = .ok (.aastore, 1) := dk_83 (dk_at dksX2_init_5 2 rfl rfl)
theorem dX2_init_123 : decode cX2_init 123 = .ok (.dup, 1) := dk_89 (dk_at dksX2_init_5 3 rfl rfl)
theorem dX2_init_124 : decode cX2_init 124 = .ok (.bipush 7, 2) := dk_16 7 (dk_at dksX2_init_5 4 rfl rfl)
theorem dX2_init_126 : decode cX2_init 126 = .ok (.ldc 58, 2) := dk_18 58 (dk_at dksX2_init_5 6 rfl rfl)
theorem dX2_init_128 : decode cX2_init 128 = .ok (.aastore, 1) := dk_83 (dk_at dksX2_init_5 8 rfl rfl)
theorem dX2_init_129 : decode cX2_init 129 = .ok (.dup, 1) := dk_89 (dk_at dksX2_init_5 9 rfl rfl)
theorem dX2_init_130 : decode cX2_init 130 = .ok (.bipush 8, 2) := dk_16 8 (dk_at dksX2_init_5 10 rfl rfl)
theorem dX2_init_132 : decode cX2_init 132 = .ok (.ldc 60, 2) := dk_18 60 (dk_at dksX2_init_5 12 rfl rfl)
theorem dX2_init_134 : decode cX2_init 134 = .ok (.aastore, 1) := dk_83 (dk_at dksX2_init_5 14 rfl rfl)
theorem dX2_init_135 : decode cX2_init 135 = .ok (.dup, 1) := dk_89 (dk_at dksX2_init_5 15 rfl rfl)
theorem dX2_init_136 : decode cX2_init 136 = .ok (.bipush 9, 2) := dk_16 9 (dk_at dksX2_init_5 16 rfl rfl)
theorem dX2_init_138 : decode cX2_init 138 = .ok (.ldc 62, 2) := dk_18 62 (dk_at dksX2_init_5 18 rfl rfl)
theorem dX2_init_140 : decode cX2_init 140 = .ok (.aastore, 1) := dk_83 (dk_at dksX2_init_5 20 rfl rfl)
theorem dX2_init_141 : decode cX2_init 141 = .ok (.dup, 1) := dk_89 (dk_at dksX2_init_5 21 rfl rfl)
theorem dX2_init_142 : decode cX2_init 142 = .ok (.bipush 10, 2) := dk_16 10 (dk_at dksX2_init_5 22 rfl rfl)
theorem dX2_init_144 : decode cX2_init 144 = .ok (.ldc 64, 2) := dk_18 64 (dk_at dksX2_init_6 0 rfl rfl)
theorem dX2_init_146 : decode cX2_init 146 = .ok (.aastore, 1) := dk_83 (dk_at dksX2_init_6 2 rfl rfl)
theorem dX2_init_147 : decode cX2_init 147 = .ok (.putfield 66, 3) := dk_181 0 66 (dk_at dksX2_init_6 3 rfl rfl)
theorem dX2_init_150 : decode cX2_init 150 = .ok (.aload_n 0, 1) := dk_42 (dk_at dksX2_init_6 6 rfl rfl)
theorem dX2_init_151 : decode cX2_init 151 = .ok (.bipush 12, 2) := dk_16 12 (dk_at dksX2_init_6 7 rfl rfl)
theorem dX2_init_153 : decode cX2_init 153 = .ok (.anewarray 68, 3) := dk_189 0 68 (dk_at dksX2_init_6 9 rfl rfl)
theorem dX2_init_156 : decode cX2_init 156 = .ok (.putfield 70, 3) := dk_181 0 70 (dk_at dksX2_init_6 12 rfl rfl)
theorem dX2_init_159 : decode cX2_init 159 = .ok (.aload_n 0, 1) := dk_42 (dk_at dksX2_init_6 15 rfl rfl)
theorem dX2_init_160 : decode cX2_init 160 = .ok (.new 74, 3) := dk_187 0 74 (dk_at dksX2_init_6 16 rfl rfl)
theorem dX2_init_163 : decode cX2_init 163 = .ok (.dup, 1) := dk_89 (dk_at dksX2_init_6 19 rfl rfl)
theorem dX2_init_164 : decode cX2_init 164 = .ok (.invokespecial 76, 3) := dk_183 0 76 (dk_at dksX2_init_6 20 rfl rfl)
theorem dX2_init_167 : decode cX2_init 167 = .ok (.putfield 77, 3) := dk_181 0 77 (dk_at dksX2_init_7 0 rfl rfl)
theorem dX2_init_170 : decode cX2_init 170 = .ok (.aload_n 0, 1) := dk_42 (dk_at dksX2_init_7 3 rfl rfl)
theorem dX2_init_171 : decode cX2_init 171 = .ok (.new 81, 3) := dk_187 0 81 (dk_at dksX2_init_7 4 rfl rfl)
theorem dX2_init_174 : decode cX2_init 174 = .ok (.dup, 1) := dk_89 (dk_at dksX2_init_7 7 rfl rfl)
theorem dX2_init_175 : decode cX2_init 175 = .ok (.invokespecial 83, 3) := dk_183 0 83 (dk_at dksX2_init_7 8 rfl rfl)
theorem dX2_init_178 : decode cX2_init 178 = .ok (.putfield 84, 3) := dk_181 0 84 (dk_at dksX2_init_7 11 rfl rfl)
theorem dX2_init_181 : decode cX2_init 181 = .ok (.return_, 1) := dk_177 (dk_at dksX2_init_7 14 rfl rfl)
abbrev cX2_lines : ByteArray := prog_12_method_12_code
def yX2_lines : MethodName := ⟨RX2, "lines", "(ILGuestView$State;)LGuestView$State;"⟩
def dkwX2_lines_1 : List UInt8 := [153, 0, 13, 42, 182, 0, 142, 132, 3, 1, 167, 255, 239, 42, 180, 0, 77, 176]
abbrev dktX2_lines_1 : List UInt8 := dkwX2_lines_1 ++ []
def dkwX2_lines_0 : List UInt8 := [42, 27, 182, 0, 131, 42, 180, 0, 77, 44, 182, 0, 134, 3, 62, 42, 29, 16, 14, 182, 0, 138]
abbrev dktX2_lines_0 : List UInt8 := dkwX2_lines_0 ++ dktX2_lines_1
theorem dksX2_lines_0 : cX2_lines.data.toList.drop 0 = dktX2_lines_0 := by decide +kernel
theorem dksX2_lines_1 : cX2_lines.data.toList.drop 22 = dktX2_lines_1 := dk_seg dksX2_lines_0 22 rfl rfl
theorem dX2_lines_0 : decode cX2_lines 0 = .ok (.aload_n 0, 1) := dk_42 (dk_at dksX2_lines_0 0 rfl rfl)
theorem dX2_lines_1 : decode cX2_lines 1 = .ok (.iload_n 1, 1) := dk_27 (dk_at dksX2_lines_0 1 rfl rfl)
theorem dX2_lines_2 : decode cX2_lines 2 = .ok (.invokevirtual 131, 3) := dk_182 0 131 (dk_at dksX2_lines_0 2 rfl rfl)
theorem dX2_lines_5 : decode cX2_lines 5 = .ok (.aload_n 0, 1) := dk_42 (dk_at dksX2_lines_0 5 rfl rfl)
theorem dX2_lines_6 : decode cX2_lines 6 = .ok (.getfield 77, 3) := dk_180 0 77 (dk_at dksX2_lines_0 6 rfl rfl)
theorem dX2_lines_9 : decode cX2_lines 9 = .ok (.aload_n 2, 1) := dk_44 (dk_at dksX2_lines_0 9 rfl rfl)
theorem dX2_lines_10 : decode cX2_lines 10 = .ok (.invokevirtual 134, 3) := dk_182 0 134 (dk_at dksX2_lines_0 10 rfl rfl)
theorem dX2_lines_13 : decode cX2_lines 13 = .ok (.iconst 0, 1) := dk_3 (dk_at dksX2_lines_0 13 rfl rfl)
theorem dX2_lines_14 : decode cX2_lines 14 = .ok (.istore_n 3, 1) := dk_62 (dk_at dksX2_lines_0 14 rfl rfl)
theorem dX2_lines_15 : decode cX2_lines 15 = .ok (.aload_n 0, 1) := dk_42 (dk_at dksX2_lines_0 15 rfl rfl)
theorem dX2_lines_16 : decode cX2_lines 16 = .ok (.iload_n 3, 1) := dk_29 (dk_at dksX2_lines_0 16 rfl rfl)
theorem dX2_lines_17 : decode cX2_lines 17 = .ok (.bipush 14, 2) := dk_16 14 (dk_at dksX2_lines_0 17 rfl rfl)
theorem dX2_lines_19 : decode cX2_lines 19 = .ok (.invokevirtual 138, 3) := dk_182 0 138 (dk_at dksX2_lines_0 19 rfl rfl)
theorem dX2_lines_22 : decode cX2_lines 22 = .ok (.ifCond .eq 13, 3) := dk_153 0 13 (dk_at dksX2_lines_1 0 rfl rfl)
theorem dX2_lines_25 : decode cX2_lines 25 = .ok (.aload_n 0, 1) := dk_42 (dk_at dksX2_lines_1 3 rfl rfl)
theorem dX2_lines_26 : decode cX2_lines 26 = .ok (.invokevirtual 142, 3) := dk_182 0 142 (dk_at dksX2_lines_1 4 rfl rfl)
theorem dX2_lines_29 : decode cX2_lines 29 = .ok (.iinc 3 1, 3) := dk_132 3 1 (dk_at dksX2_lines_1 7 rfl rfl)
theorem dX2_lines_32 : decode cX2_lines 32 = .ok (.goto (-17), 3) := dk_167 255 239 (dk_at dksX2_lines_1 10 rfl rfl)
theorem dX2_lines_35 : decode cX2_lines 35 = .ok (.aload_n 0, 1) := dk_42 (dk_at dksX2_lines_1 13 rfl rfl)
theorem dX2_lines_36 : decode cX2_lines 36 = .ok (.getfield 77, 3) := dk_180 0 77 (dk_at dksX2_lines_1 14 rfl rfl)
theorem dX2_lines_39 : decode cX2_lines 39 = .ok (.areturn, 1) := dk_176 (dk_at dksX2_lines_1 17 rfl rfl)
abbrev cX2_begins : ByteArray := prog_12_method_10_code
def yX2_begins : MethodName := ⟨RX2, "begins", "(I)V"⟩
def dkwX2_begins_0 : List UInt8 := [42, 27, 181, 0, 95, 42, 3, 181, 0, 92, 42, 3, 181, 0, 128, 177]
abbrev dktX2_begins_0 : List UInt8 := dkwX2_begins_0 ++ []
theorem dksX2_begins_0 : cX2_begins.data.toList.drop 0 = dktX2_begins_0 := by decide +kernel
theorem dX2_begins_0 : decode cX2_begins 0 = .ok (.aload_n 0, 1) := dk_42 (dk_at dksX2_begins_0 0 rfl rfl)
theorem dX2_begins_1 : decode cX2_begins 1 = .ok (.iload_n 1, 1) := dk_27 (dk_at dksX2_begins_0 1 rfl rfl)
theorem dX2_begins_2 : decode cX2_begins 2 = .ok (.putfield 95, 3) := dk_181 0 95 (dk_at dksX2_begins_0 2 rfl rfl)
theorem dX2_begins_5 : decode cX2_begins 5 = .ok (.aload_n 0, 1) := dk_42 (dk_at dksX2_begins_0 5 rfl rfl)
theorem dX2_begins_6 : decode cX2_begins 6 = .ok (.iconst 0, 1) := dk_3 (dk_at dksX2_begins_0 6 rfl rfl)
theorem dX2_begins_7 : decode cX2_begins 7 = .ok (.putfield 92, 3) := dk_181 0 92 (dk_at dksX2_begins_0 7 rfl rfl)
theorem dX2_begins_10 : decode cX2_begins 10 = .ok (.aload_n 0, 1) := dk_42 (dk_at dksX2_begins_0 10 rfl rfl)
theorem dX2_begins_11 : decode cX2_begins 11 = .ok (.iconst 0, 1) := dk_3 (dk_at dksX2_begins_0 11 rfl rfl)
theorem dX2_begins_12 : decode cX2_begins 12 = .ok (.putfield 128, 3) := dk_181 0 128 (dk_at dksX2_begins_0 12 rfl rfl)
theorem dX2_begins_15 : decode cX2_begins 15 = .ok (.return_, 1) := dk_177 (dk_at dksX2_begins_0 15 rfl rfl)
abbrev cX2_more : ByteArray := prog_12_method_11_code
def yX2_more : MethodName := ⟨RX2, "more", "(II)Z"⟩
def dkwX2_more_4 : List UInt8 := [172]
abbrev dktX2_more_4 : List UInt8 := dkwX2_more_4 ++ []
def dkwX2_more_3 : List UInt8 := [167, 0, 4, 2, 54, 4, 29, 153, 0, 16, 27, 28, 160, 0, 11, 42, 42, 180, 0, 92, 182, 0, 113, 29]
abbrev dktX2_more_3 : List UInt8 := dkwX2_more_3 ++ dktX2_more_4
def dkwX2_more_2 : List UInt8 := [27, 158, 0, 13, 42, 89, 180, 0, 92, 4, 96, 181, 0, 92, 29, 153, 0, 10, 42, 182, 0, 98]
abbrev dktX2_more_2 : List UInt8 := dkwX2_more_2 ++ dktX2_more_3
def dkwX2_more_1 : List UInt8 := [180, 0, 92, 182, 0, 113, 42, 182, 0, 98, 2, 159, 0, 7, 4, 167, 0, 4, 3, 62, 29, 153, 0, 17]
abbrev dktX2_more_1 : List UInt8 := dkwX2_more_1 ++ dktX2_more_2
def dkwX2_more_0 : List UInt8 := [27, 158, 0, 28, 42, 182, 0, 98, 2, 159, 0, 20, 42, 182, 0, 98, 16, 59, 159, 0, 11, 42, 42]
abbrev dktX2_more_0 : List UInt8 := dkwX2_more_0 ++ dktX2_more_1
theorem dksX2_more_0 : cX2_more.data.toList.drop 0 = dktX2_more_0 := by decide +kernel
theorem dksX2_more_1 : cX2_more.data.toList.drop 23 = dktX2_more_1 := dk_seg dksX2_more_0 23 rfl rfl
theorem dksX2_more_2 : cX2_more.data.toList.drop 47 = dktX2_more_2 := dk_seg dksX2_more_1 24 rfl rfl
theorem dksX2_more_3 : cX2_more.data.toList.drop 69 = dktX2_more_3 := dk_seg dksX2_more_2 22 rfl rfl
theorem dksX2_more_4 : cX2_more.data.toList.drop 93 = dktX2_more_4 := dk_seg dksX2_more_3 24 rfl rfl
theorem dX2_more_0 : decode cX2_more 0 = .ok (.iload_n 1, 1) := dk_27 (dk_at dksX2_more_0 0 rfl rfl)
theorem dX2_more_1 : decode cX2_more 1 = .ok (.ifCond .le 28, 3) := dk_158 0 28 (dk_at dksX2_more_0 1 rfl rfl)
theorem dX2_more_4 : decode cX2_more 4 = .ok (.aload_n 0, 1) := dk_42 (dk_at dksX2_more_0 4 rfl rfl)
theorem dX2_more_5 : decode cX2_more 5 = .ok (.invokevirtual 98, 3) := dk_182 0 98 (dk_at dksX2_more_0 5 rfl rfl)
theorem dX2_more_8 : decode cX2_more 8 = .ok (.iconst (-1), 1) := dk_2 (dk_at dksX2_more_0 8 rfl rfl)
theorem dX2_more_9 : decode cX2_more 9 = .ok (.if_icmp .eq 20, 3) := dk_159 0 20 (dk_at dksX2_more_0 9 rfl rfl)
theorem dX2_more_12 : decode cX2_more 12 = .ok (.aload_n 0, 1) := dk_42 (dk_at dksX2_more_0 12 rfl rfl)
theorem dX2_more_13 : decode cX2_more 13 = .ok (.invokevirtual 98, 3) := dk_182 0 98 (dk_at dksX2_more_0 13 rfl rfl)
theorem dX2_more_16 : decode cX2_more 16 = .ok (.bipush 59, 2) := dk_16 59 (dk_at dksX2_more_0 16 rfl rfl)
theorem dX2_more_18 : decode cX2_more 18 = .ok (.if_icmp .eq 11, 3) := dk_159 0 11 (dk_at dksX2_more_0 18 rfl rfl)
theorem dX2_more_21 : decode cX2_more 21 = .ok (.aload_n 0, 1) := dk_42 (dk_at dksX2_more_0 21 rfl rfl)
theorem dX2_more_22 : decode cX2_more 22 = .ok (.aload_n 0, 1) := dk_42 (dk_at dksX2_more_0 22 rfl rfl)
theorem dX2_more_23 : decode cX2_more 23 = .ok (.getfield 92, 3) := dk_180 0 92 (dk_at dksX2_more_1 0 rfl rfl)
theorem dX2_more_26 : decode cX2_more 26 = .ok (.invokevirtual 113, 3) := dk_182 0 113 (dk_at dksX2_more_1 3 rfl rfl)
theorem dX2_more_29 : decode cX2_more 29 = .ok (.aload_n 0, 1) := dk_42 (dk_at dksX2_more_1 6 rfl rfl)
theorem dX2_more_30 : decode cX2_more 30 = .ok (.invokevirtual 98, 3) := dk_182 0 98 (dk_at dksX2_more_1 7 rfl rfl)
theorem dX2_more_33 : decode cX2_more 33 = .ok (.iconst (-1), 1) := dk_2 (dk_at dksX2_more_1 10 rfl rfl)
theorem dX2_more_34 : decode cX2_more 34 = .ok (.if_icmp .eq 7, 3) := dk_159 0 7 (dk_at dksX2_more_1 11 rfl rfl)
theorem dX2_more_37 : decode cX2_more 37 = .ok (.iconst 1, 1) := dk_4 (dk_at dksX2_more_1 14 rfl rfl)
theorem dX2_more_38 : decode cX2_more 38 = .ok (.goto 4, 3) := dk_167 0 4 (dk_at dksX2_more_1 15 rfl rfl)
theorem dX2_more_41 : decode cX2_more 41 = .ok (.iconst 0, 1) := dk_3 (dk_at dksX2_more_1 18 rfl rfl)
theorem dX2_more_42 : decode cX2_more 42 = .ok (.istore_n 3, 1) := dk_62 (dk_at dksX2_more_1 19 rfl rfl)
theorem dX2_more_43 : decode cX2_more 43 = .ok (.iload_n 3, 1) := dk_29 (dk_at dksX2_more_1 20 rfl rfl)
theorem dX2_more_44 : decode cX2_more 44 = .ok (.ifCond .eq 17, 3) := dk_153 0 17 (dk_at dksX2_more_1 21 rfl rfl)
theorem dX2_more_47 : decode cX2_more 47 = .ok (.iload_n 1, 1) := dk_27 (dk_at dksX2_more_2 0 rfl rfl)
theorem dX2_more_48 : decode cX2_more 48 = .ok (.ifCond .le 13, 3) := dk_158 0 13 (dk_at dksX2_more_2 1 rfl rfl)
theorem dX2_more_51 : decode cX2_more 51 = .ok (.aload_n 0, 1) := dk_42 (dk_at dksX2_more_2 4 rfl rfl)
theorem dX2_more_52 : decode cX2_more 52 = .ok (.dup, 1) := dk_89 (dk_at dksX2_more_2 5 rfl rfl)
theorem dX2_more_53 : decode cX2_more 53 = .ok (.getfield 92, 3) := dk_180 0 92 (dk_at dksX2_more_2 6 rfl rfl)
theorem dX2_more_56 : decode cX2_more 56 = .ok (.iconst 1, 1) := dk_4 (dk_at dksX2_more_2 9 rfl rfl)
theorem dX2_more_57 : decode cX2_more 57 = .ok (.iadd, 1) := dk_96 (dk_at dksX2_more_2 10 rfl rfl)
theorem dX2_more_58 : decode cX2_more 58 = .ok (.putfield 92, 3) := dk_181 0 92 (dk_at dksX2_more_2 11 rfl rfl)
theorem dX2_more_61 : decode cX2_more 61 = .ok (.iload_n 3, 1) := dk_29 (dk_at dksX2_more_2 14 rfl rfl)
theorem dX2_more_62 : decode cX2_more 62 = .ok (.ifCond .eq 10, 3) := dk_153 0 10 (dk_at dksX2_more_2 15 rfl rfl)
theorem dX2_more_65 : decode cX2_more 65 = .ok (.aload_n 0, 1) := dk_42 (dk_at dksX2_more_2 18 rfl rfl)
theorem dX2_more_66 : decode cX2_more 66 = .ok (.invokevirtual 98, 3) := dk_182 0 98 (dk_at dksX2_more_2 19 rfl rfl)
theorem dX2_more_69 : decode cX2_more 69 = .ok (.goto 4, 3) := dk_167 0 4 (dk_at dksX2_more_3 0 rfl rfl)
theorem dX2_more_72 : decode cX2_more 72 = .ok (.iconst (-1), 1) := dk_2 (dk_at dksX2_more_3 3 rfl rfl)
theorem dX2_more_73 : decode cX2_more 73 = .ok (.istore 4, 2) := dk_54 4 (dk_at dksX2_more_3 4 rfl rfl)
theorem dX2_more_75 : decode cX2_more 75 = .ok (.iload_n 3, 1) := dk_29 (dk_at dksX2_more_3 6 rfl rfl)
theorem dX2_more_76 : decode cX2_more 76 = .ok (.ifCond .eq 16, 3) := dk_153 0 16 (dk_at dksX2_more_3 7 rfl rfl)
theorem dX2_more_79 : decode cX2_more 79 = .ok (.iload_n 1, 1) := dk_27 (dk_at dksX2_more_3 10 rfl rfl)
theorem dX2_more_80 : decode cX2_more 80 = .ok (.iload_n 2, 1) := dk_28 (dk_at dksX2_more_3 11 rfl rfl)
theorem dX2_more_81 : decode cX2_more 81 = .ok (.if_icmp .ne 11, 3) := dk_160 0 11 (dk_at dksX2_more_3 12 rfl rfl)
theorem dX2_more_84 : decode cX2_more 84 = .ok (.aload_n 0, 1) := dk_42 (dk_at dksX2_more_3 15 rfl rfl)
theorem dX2_more_85 : decode cX2_more 85 = .ok (.aload_n 0, 1) := dk_42 (dk_at dksX2_more_3 16 rfl rfl)
theorem dX2_more_86 : decode cX2_more 86 = .ok (.getfield 92, 3) := dk_180 0 92 (dk_at dksX2_more_3 17 rfl rfl)
theorem dX2_more_89 : decode cX2_more 89 = .ok (.invokevirtual 113, 3) := dk_182 0 113 (dk_at dksX2_more_3 20 rfl rfl)
theorem dX2_more_92 : decode cX2_more 92 = .ok (.iload_n 3, 1) := dk_29 (dk_at dksX2_more_3 23 rfl rfl)
theorem dX2_more_93 : decode cX2_more 93 = .ok (.ireturn, 1) := dk_172 (dk_at dksX2_more_4 0 rfl rfl)
abbrev cX2_sign : ByteArray := prog_12_method_3_code
def yX2_sign : MethodName := ⟨RX2, "sign", "()I"⟩
def dkwX2_sign_2 : List UInt8 := [162, 0, 19, 42, 180, 0, 9, 42, 180, 0, 92, 51, 17, 0, 255, 126, 167, 0, 4, 2, 172]
abbrev dktX2_sign_2 : List UInt8 := dkwX2_sign_2 ++ []
def dkwX2_sign_1 : List UInt8 := [160, 0, 16, 42, 89, 180, 0, 92, 4, 96, 181, 0, 92, 167, 255, 221, 42, 180, 0, 92, 42, 180, 0, 95]
abbrev dktX2_sign_1 : List UInt8 := dkwX2_sign_1 ++ dktX2_sign_2
def dkwX2_sign_0 : List UInt8 := [42, 180, 0, 92, 42, 180, 0, 95, 162, 0, 30, 42, 180, 0, 9, 42, 180, 0, 92, 51, 16, 32]
abbrev dktX2_sign_0 : List UInt8 := dkwX2_sign_0 ++ dktX2_sign_1
theorem dksX2_sign_0 : cX2_sign.data.toList.drop 0 = dktX2_sign_0 := by decide +kernel
theorem dksX2_sign_1 : cX2_sign.data.toList.drop 22 = dktX2_sign_1 := dk_seg dksX2_sign_0 22 rfl rfl
theorem dksX2_sign_2 : cX2_sign.data.toList.drop 46 = dktX2_sign_2 := dk_seg dksX2_sign_1 24 rfl rfl
theorem dX2_sign_0 : decode cX2_sign 0 = .ok (.aload_n 0, 1) := dk_42 (dk_at dksX2_sign_0 0 rfl rfl)
theorem dX2_sign_1 : decode cX2_sign 1 = .ok (.getfield 92, 3) := dk_180 0 92 (dk_at dksX2_sign_0 1 rfl rfl)
theorem dX2_sign_4 : decode cX2_sign 4 = .ok (.aload_n 0, 1) := dk_42 (dk_at dksX2_sign_0 4 rfl rfl)
theorem dX2_sign_5 : decode cX2_sign 5 = .ok (.getfield 95, 3) := dk_180 0 95 (dk_at dksX2_sign_0 5 rfl rfl)
theorem dX2_sign_8 : decode cX2_sign 8 = .ok (.if_icmp .ge 30, 3) := dk_162 0 30 (dk_at dksX2_sign_0 8 rfl rfl)
theorem dX2_sign_11 : decode cX2_sign 11 = .ok (.aload_n 0, 1) := dk_42 (dk_at dksX2_sign_0 11 rfl rfl)
theorem dX2_sign_12 : decode cX2_sign 12 = .ok (.getfield 9, 3) := dk_180 0 9 (dk_at dksX2_sign_0 12 rfl rfl)
theorem dX2_sign_15 : decode cX2_sign 15 = .ok (.aload_n 0, 1) := dk_42 (dk_at dksX2_sign_0 15 rfl rfl)
theorem dX2_sign_16 : decode cX2_sign 16 = .ok (.getfield 92, 3) := dk_180 0 92 (dk_at dksX2_sign_0 16 rfl rfl)
theorem dX2_sign_19 : decode cX2_sign 19 = .ok (.baload, 1) := dk_51 (dk_at dksX2_sign_0 19 rfl rfl)
theorem dX2_sign_20 : decode cX2_sign 20 = .ok (.bipush 32, 2) := dk_16 32 (dk_at dksX2_sign_0 20 rfl rfl)
theorem dX2_sign_22 : decode cX2_sign 22 = .ok (.if_icmp .ne 16, 3) := dk_160 0 16 (dk_at dksX2_sign_1 0 rfl rfl)
theorem dX2_sign_25 : decode cX2_sign 25 = .ok (.aload_n 0, 1) := dk_42 (dk_at dksX2_sign_1 3 rfl rfl)
theorem dX2_sign_26 : decode cX2_sign 26 = .ok (.dup, 1) := dk_89 (dk_at dksX2_sign_1 4 rfl rfl)
theorem dX2_sign_27 : decode cX2_sign 27 = .ok (.getfield 92, 3) := dk_180 0 92 (dk_at dksX2_sign_1 5 rfl rfl)
theorem dX2_sign_30 : decode cX2_sign 30 = .ok (.iconst 1, 1) := dk_4 (dk_at dksX2_sign_1 8 rfl rfl)
theorem dX2_sign_31 : decode cX2_sign 31 = .ok (.iadd, 1) := dk_96 (dk_at dksX2_sign_1 9 rfl rfl)
theorem dX2_sign_32 : decode cX2_sign 32 = .ok (.putfield 92, 3) := dk_181 0 92 (dk_at dksX2_sign_1 10 rfl rfl)
theorem dX2_sign_35 : decode cX2_sign 35 = .ok (.goto (-35), 3) := dk_167 255 221 (dk_at dksX2_sign_1 13 rfl rfl)
theorem dX2_sign_38 : decode cX2_sign 38 = .ok (.aload_n 0, 1) := dk_42 (dk_at dksX2_sign_1 16 rfl rfl)
theorem dX2_sign_39 : decode cX2_sign 39 = .ok (.getfield 92, 3) := dk_180 0 92 (dk_at dksX2_sign_1 17 rfl rfl)
theorem dX2_sign_42 : decode cX2_sign 42 = .ok (.aload_n 0, 1) := dk_42 (dk_at dksX2_sign_1 20 rfl rfl)
theorem dX2_sign_43 : decode cX2_sign 43 = .ok (.getfield 95, 3) := dk_180 0 95 (dk_at dksX2_sign_1 21 rfl rfl)
theorem dX2_sign_46 : decode cX2_sign 46 = .ok (.if_icmp .ge 19, 3) := dk_162 0 19 (dk_at dksX2_sign_2 0 rfl rfl)
theorem dX2_sign_49 : decode cX2_sign 49 = .ok (.aload_n 0, 1) := dk_42 (dk_at dksX2_sign_2 3 rfl rfl)
theorem dX2_sign_50 : decode cX2_sign 50 = .ok (.getfield 9, 3) := dk_180 0 9 (dk_at dksX2_sign_2 4 rfl rfl)
theorem dX2_sign_53 : decode cX2_sign 53 = .ok (.aload_n 0, 1) := dk_42 (dk_at dksX2_sign_2 7 rfl rfl)
theorem dX2_sign_54 : decode cX2_sign 54 = .ok (.getfield 92, 3) := dk_180 0 92 (dk_at dksX2_sign_2 8 rfl rfl)
theorem dX2_sign_57 : decode cX2_sign 57 = .ok (.baload, 1) := dk_51 (dk_at dksX2_sign_2 11 rfl rfl)
theorem dX2_sign_58 : decode cX2_sign 58 = .ok (.sipush 255, 3) := dk_17 0 255 (dk_at dksX2_sign_2 12 rfl rfl)
theorem dX2_sign_61 : decode cX2_sign 61 = .ok (.iand, 1) := dk_126 (dk_at dksX2_sign_2 15 rfl rfl)
theorem dX2_sign_62 : decode cX2_sign 62 = .ok (.goto 4, 3) := dk_167 0 4 (dk_at dksX2_sign_2 16 rfl rfl)
theorem dX2_sign_65 : decode cX2_sign 65 = .ok (.iconst (-1), 1) := dk_2 (dk_at dksX2_sign_2 19 rfl rfl)
theorem dX2_sign_66 : decode cX2_sign 66 = .ok (.ireturn, 1) := dk_172 (dk_at dksX2_sign_2 20 rfl rfl)
abbrev cX2_fail : ByteArray := prog_12_method_2_code
def yX2_fail : MethodName := ⟨RX2, "fail", "(I)V"⟩
def dkwX2_fail_0 : List UInt8 := [42, 180, 0, 84, 27, 181, 0, 88, 42, 180, 0, 84, 191]
abbrev dktX2_fail_0 : List UInt8 := dkwX2_fail_0 ++ []
theorem dksX2_fail_0 : cX2_fail.data.toList.drop 0 = dktX2_fail_0 := by decide +kernel
theorem dX2_fail_0 : decode cX2_fail 0 = .ok (.aload_n 0, 1) := dk_42 (dk_at dksX2_fail_0 0 rfl rfl)
theorem dX2_fail_1 : decode cX2_fail 1 = .ok (.getfield 84, 3) := dk_180 0 84 (dk_at dksX2_fail_0 1 rfl rfl)
theorem dX2_fail_4 : decode cX2_fail 4 = .ok (.iload_n 1, 1) := dk_27 (dk_at dksX2_fail_0 4 rfl rfl)
theorem dX2_fail_5 : decode cX2_fail 5 = .ok (.putfield 88, 3) := dk_181 0 88 (dk_at dksX2_fail_0 5 rfl rfl)
theorem dX2_fail_8 : decode cX2_fail 8 = .ok (.aload_n 0, 1) := dk_42 (dk_at dksX2_fail_0 8 rfl rfl)
theorem dX2_fail_9 : decode cX2_fail 9 = .ok (.getfield 84, 3) := dk_180 0 84 (dk_at dksX2_fail_0 9 rfl rfl)
theorem dX2_fail_12 : decode cX2_fail 12 = .ok (.athrow, 1) := dk_191 (dk_at dksX2_fail_0 12 rfl rfl)
abbrev cX2_line : ByteArray := prog_12_method_13_code
def yX2_line : MethodName := ⟨RX2, "line", "()V"⟩
def dkwX2_line_7 : List UInt8 := [180, 0, 77, 42, 3, 17, 3, 231, 182, 0, 124, 181, 0, 176, 177]
abbrev dktX2_line_7 : List UInt8 := dkwX2_line_7 ++ []
def dkwX2_line_6 : List UInt8 := [180, 0, 77, 42, 3, 16, 100, 182, 0, 124, 181, 0, 172, 167, 0, 24, 42, 18, 174, 182, 0, 120, 42]
abbrev dktX2_line_6 : List UInt8 := dkwX2_line_6 ++ dktX2_line_7
def dkwX2_line_5 : List UInt8 := [3, 16, 7, 182, 0, 124, 181, 0, 168, 167, 0, 50, 42, 18, 170, 182, 0, 109, 153, 0, 20, 42]
abbrev dktX2_line_5 : List UInt8 := dkwX2_line_5 ++ dktX2_line_6
def dkwX2_line_4 : List UInt8 := [6, 182, 0, 124, 181, 0, 164, 167, 0, 76, 42, 18, 166, 182, 0, 109, 153, 0, 20, 42, 180, 0, 77, 42]
abbrev dktX2_line_4 : List UInt8 := dkwX2_line_4 ++ dktX2_line_5
def dkwX2_line_3 : List UInt8 := [182, 0, 124, 181, 0, 160, 167, 0, 101, 42, 18, 162, 182, 0, 109, 153, 0, 19, 42, 180, 0, 77, 42, 3]
abbrev dktX2_line_3 : List UInt8 := dkwX2_line_3 ++ dktX2_line_4
def dkwX2_line_2 : List UInt8 := [42, 182, 0, 155, 167, 0, 127, 42, 18, 158, 182, 0, 109, 153, 0, 20, 42, 180, 0, 77, 42, 3, 16, 9]
abbrev dktX2_line_2 : List UInt8 := dkwX2_line_2 ++ dktX2_line_3
def dkwX2_line_1 : List UInt8 := [18, 148, 182, 0, 109, 153, 0, 10, 42, 182, 0, 150, 167, 0, 143, 42, 18, 153, 182, 0, 109, 153, 0, 10]
abbrev dktX2_line_1 : List UInt8 := dkwX2_line_1 ++ dktX2_line_2
def dkwX2_line_0 : List UInt8 := [42, 180, 0, 92, 60, 42, 18, 17, 182, 0, 109, 153, 0, 11, 42, 27, 182, 0, 145, 167, 0, 159, 42]
abbrev dktX2_line_0 : List UInt8 := dkwX2_line_0 ++ dktX2_line_1
theorem dksX2_line_0 : cX2_line.data.toList.drop 0 = dktX2_line_0 := by decide +kernel
theorem dksX2_line_1 : cX2_line.data.toList.drop 23 = dktX2_line_1 := dk_seg dksX2_line_0 23 rfl rfl
theorem dksX2_line_2 : cX2_line.data.toList.drop 47 = dktX2_line_2 := dk_seg dksX2_line_1 24 rfl rfl
theorem dksX2_line_3 : cX2_line.data.toList.drop 71 = dktX2_line_3 := dk_seg dksX2_line_2 24 rfl rfl
theorem dksX2_line_4 : cX2_line.data.toList.drop 95 = dktX2_line_4 := dk_seg dksX2_line_3 24 rfl rfl
theorem dksX2_line_5 : cX2_line.data.toList.drop 119 = dktX2_line_5 := dk_seg dksX2_line_4 24 rfl rfl
theorem dksX2_line_6 : cX2_line.data.toList.drop 141 = dktX2_line_6 := dk_seg dksX2_line_5 22 rfl rfl
theorem dksX2_line_7 : cX2_line.data.toList.drop 164 = dktX2_line_7 := dk_seg dksX2_line_6 23 rfl rfl
theorem dX2_line_0 : decode cX2_line 0 = .ok (.aload_n 0, 1) := dk_42 (dk_at dksX2_line_0 0 rfl rfl)
theorem dX2_line_1 : decode cX2_line 1 = .ok (.getfield 92, 3) := dk_180 0 92 (dk_at dksX2_line_0 1 rfl rfl)
theorem dX2_line_4 : decode cX2_line 4 = .ok (.istore_n 1, 1) := dk_60 (dk_at dksX2_line_0 4 rfl rfl)
theorem dX2_line_5 : decode cX2_line 5 = .ok (.aload_n 0, 1) := dk_42 (dk_at dksX2_line_0 5 rfl rfl)
theorem dX2_line_6 : decode cX2_line 6 = .ok (.ldc 17, 2) := dk_18 17 (dk_at dksX2_line_0 6 rfl rfl)
theorem dX2_line_8 : decode cX2_line 8 = .ok (.invokevirtual 109, 3) := dk_182 0 109 (dk_at dksX2_line_0 8 rfl rfl)
theorem dX2_line_11 : decode cX2_line 11 = .ok (.ifCond .eq 11, 3) := dk_153 0 11 (dk_at dksX2_line_0 11 rfl rfl)
theorem dX2_line_14 : decode cX2_line 14 = .ok (.aload_n 0, 1) := dk_42 (dk_at dksX2_line_0 14 rfl rfl)
theorem dX2_line_15 : decode cX2_line 15 = .ok (.iload_n 1, 1) := dk_27 (dk_at dksX2_line_0 15 rfl rfl)
theorem dX2_line_16 : decode cX2_line 16 = .ok (.invokevirtual 145, 3) := dk_182 0 145 (dk_at dksX2_line_0 16 rfl rfl)
theorem dX2_line_19 : decode cX2_line 19 = .ok (.goto 159, 3) := dk_167 0 159 (dk_at dksX2_line_0 19 rfl rfl)
theorem dX2_line_22 : decode cX2_line 22 = .ok (.aload_n 0, 1) := dk_42 (dk_at dksX2_line_0 22 rfl rfl)
theorem dX2_line_23 : decode cX2_line 23 = .ok (.ldc 148, 2) := dk_18 148 (dk_at dksX2_line_1 0 rfl rfl)
theorem dX2_line_25 : decode cX2_line 25 = .ok (.invokevirtual 109, 3) := dk_182 0 109 (dk_at dksX2_line_1 2 rfl rfl)
theorem dX2_line_28 : decode cX2_line 28 = .ok (.ifCond .eq 10, 3) := dk_153 0 10 (dk_at dksX2_line_1 5 rfl rfl)
theorem dX2_line_31 : decode cX2_line 31 = .ok (.aload_n 0, 1) := dk_42 (dk_at dksX2_line_1 8 rfl rfl)
theorem dX2_line_32 : decode cX2_line 32 = .ok (.invokevirtual 150, 3) := dk_182 0 150 (dk_at dksX2_line_1 9 rfl rfl)
theorem dX2_line_35 : decode cX2_line 35 = .ok (.goto 143, 3) := dk_167 0 143 (dk_at dksX2_line_1 12 rfl rfl)
theorem dX2_line_38 : decode cX2_line 38 = .ok (.aload_n 0, 1) := dk_42 (dk_at dksX2_line_1 15 rfl rfl)
theorem dX2_line_39 : decode cX2_line 39 = .ok (.ldc 153, 2) := dk_18 153 (dk_at dksX2_line_1 16 rfl rfl)
theorem dX2_line_41 : decode cX2_line 41 = .ok (.invokevirtual 109, 3) := dk_182 0 109 (dk_at dksX2_line_1 18 rfl rfl)
theorem dX2_line_44 : decode cX2_line 44 = .ok (.ifCond .eq 10, 3) := dk_153 0 10 (dk_at dksX2_line_1 21 rfl rfl)
theorem dX2_line_47 : decode cX2_line 47 = .ok (.aload_n 0, 1) := dk_42 (dk_at dksX2_line_2 0 rfl rfl)
theorem dX2_line_48 : decode cX2_line 48 = .ok (.invokevirtual 155, 3) := dk_182 0 155 (dk_at dksX2_line_2 1 rfl rfl)
theorem dX2_line_51 : decode cX2_line 51 = .ok (.goto 127, 3) := dk_167 0 127 (dk_at dksX2_line_2 4 rfl rfl)
theorem dX2_line_54 : decode cX2_line 54 = .ok (.aload_n 0, 1) := dk_42 (dk_at dksX2_line_2 7 rfl rfl)
theorem dX2_line_55 : decode cX2_line 55 = .ok (.ldc 158, 2) := dk_18 158 (dk_at dksX2_line_2 8 rfl rfl)
theorem dX2_line_57 : decode cX2_line 57 = .ok (.invokevirtual 109, 3) := dk_182 0 109 (dk_at dksX2_line_2 10 rfl rfl)
theorem dX2_line_60 : decode cX2_line 60 = .ok (.ifCond .eq 20, 3) := dk_153 0 20 (dk_at dksX2_line_2 13 rfl rfl)
theorem dX2_line_63 : decode cX2_line 63 = .ok (.aload_n 0, 1) := dk_42 (dk_at dksX2_line_2 16 rfl rfl)
theorem dX2_line_64 : decode cX2_line 64 = .ok (.getfield 77, 3) := dk_180 0 77 (dk_at dksX2_line_2 17 rfl rfl)
theorem dX2_line_67 : decode cX2_line 67 = .ok (.aload_n 0, 1) := dk_42 (dk_at dksX2_line_2 20 rfl rfl)
theorem dX2_line_68 : decode cX2_line 68 = .ok (.iconst 0, 1) := dk_3 (dk_at dksX2_line_2 21 rfl rfl)
theorem dX2_line_69 : decode cX2_line 69 = .ok (.bipush 9, 2) := dk_16 9 (dk_at dksX2_line_2 22 rfl rfl)
theorem dX2_line_71 : decode cX2_line 71 = .ok (.invokevirtual 124, 3) := dk_182 0 124 (dk_at dksX2_line_3 0 rfl rfl)
theorem dX2_line_74 : decode cX2_line 74 = .ok (.putfield 160, 3) := dk_181 0 160 (dk_at dksX2_line_3 3 rfl rfl)
theorem dX2_line_77 : decode cX2_line 77 = .ok (.goto 101, 3) := dk_167 0 101 (dk_at dksX2_line_3 6 rfl rfl)
theorem dX2_line_80 : decode cX2_line 80 = .ok (.aload_n 0, 1) := dk_42 (dk_at dksX2_line_3 9 rfl rfl)
theorem dX2_line_81 : decode cX2_line 81 = .ok (.ldc 162, 2) := dk_18 162 (dk_at dksX2_line_3 10 rfl rfl)
theorem dX2_line_83 : decode cX2_line 83 = .ok (.invokevirtual 109, 3) := dk_182 0 109 (dk_at dksX2_line_3 12 rfl rfl)
theorem dX2_line_86 : decode cX2_line 86 = .ok (.ifCond .eq 19, 3) := dk_153 0 19 (dk_at dksX2_line_3 15 rfl rfl)
theorem dX2_line_89 : decode cX2_line 89 = .ok (.aload_n 0, 1) := dk_42 (dk_at dksX2_line_3 18 rfl rfl)
theorem dX2_line_90 : decode cX2_line 90 = .ok (.getfield 77, 3) := dk_180 0 77 (dk_at dksX2_line_3 19 rfl rfl)
theorem dX2_line_93 : decode cX2_line 93 = .ok (.aload_n 0, 1) := dk_42 (dk_at dksX2_line_3 22 rfl rfl)
theorem dX2_line_94 : decode cX2_line 94 = .ok (.iconst 0, 1) := dk_3 (dk_at dksX2_line_3 23 rfl rfl)
theorem dX2_line_95 : decode cX2_line 95 = .ok (.iconst 3, 1) := dk_6 (dk_at dksX2_line_4 0 rfl rfl)
theorem dX2_line_96 : decode cX2_line 96 = .ok (.invokevirtual 124, 3) := dk_182 0 124 (dk_at dksX2_line_4 1 rfl rfl)
theorem dX2_line_99 : decode cX2_line 99 = .ok (.putfield 164, 3) := dk_181 0 164 (dk_at dksX2_line_4 4 rfl rfl)
theorem dX2_line_102 : decode cX2_line 102 = .ok (.goto 76, 3) := dk_167 0 76 (dk_at dksX2_line_4 7 rfl rfl)
theorem dX2_line_105 : decode cX2_line 105 = .ok (.aload_n 0, 1) := dk_42 (dk_at dksX2_line_4 10 rfl rfl)
theorem dX2_line_106 : decode cX2_line 106 = .ok (.ldc 166, 2) := dk_18 166 (dk_at dksX2_line_4 11 rfl rfl)
theorem dX2_line_108 : decode cX2_line 108 = .ok (.invokevirtual 109, 3) := dk_182 0 109 (dk_at dksX2_line_4 13 rfl rfl)
theorem dX2_line_111 : decode cX2_line 111 = .ok (.ifCond .eq 20, 3) := dk_153 0 20 (dk_at dksX2_line_4 16 rfl rfl)
theorem dX2_line_114 : decode cX2_line 114 = .ok (.aload_n 0, 1) := dk_42 (dk_at dksX2_line_4 19 rfl rfl)
theorem dX2_line_115 : decode cX2_line 115 = .ok (.getfield 77, 3) := dk_180 0 77 (dk_at dksX2_line_4 20 rfl rfl)
theorem dX2_line_118 : decode cX2_line 118 = .ok (.aload_n 0, 1) := dk_42 (dk_at dksX2_line_4 23 rfl rfl)
theorem dX2_line_119 : decode cX2_line 119 = .ok (.iconst 0, 1) := dk_3 (dk_at dksX2_line_5 0 rfl rfl)
theorem dX2_line_120 : decode cX2_line 120 = .ok (.bipush 7, 2) := dk_16 7 (dk_at dksX2_line_5 1 rfl rfl)
theorem dX2_line_122 : decode cX2_line 122 = .ok (.invokevirtual 124, 3) := dk_182 0 124 (dk_at dksX2_line_5 3 rfl rfl)
theorem dX2_line_125 : decode cX2_line 125 = .ok (.putfield 168, 3) := dk_181 0 168 (dk_at dksX2_line_5 6 rfl rfl)
theorem dX2_line_128 : decode cX2_line 128 = .ok (.goto 50, 3) := dk_167 0 50 (dk_at dksX2_line_5 9 rfl rfl)
theorem dX2_line_131 : decode cX2_line 131 = .ok (.aload_n 0, 1) := dk_42 (dk_at dksX2_line_5 12 rfl rfl)
theorem dX2_line_132 : decode cX2_line 132 = .ok (.ldc 170, 2) := dk_18 170 (dk_at dksX2_line_5 13 rfl rfl)
theorem dX2_line_134 : decode cX2_line 134 = .ok (.invokevirtual 109, 3) := dk_182 0 109 (dk_at dksX2_line_5 15 rfl rfl)
theorem dX2_line_137 : decode cX2_line 137 = .ok (.ifCond .eq 20, 3) := dk_153 0 20 (dk_at dksX2_line_5 18 rfl rfl)
theorem dX2_line_140 : decode cX2_line 140 = .ok (.aload_n 0, 1) := dk_42 (dk_at dksX2_line_5 21 rfl rfl)
theorem dX2_line_141 : decode cX2_line 141 = .ok (.getfield 77, 3) := dk_180 0 77 (dk_at dksX2_line_6 0 rfl rfl)
theorem dX2_line_144 : decode cX2_line 144 = .ok (.aload_n 0, 1) := dk_42 (dk_at dksX2_line_6 3 rfl rfl)
theorem dX2_line_145 : decode cX2_line 145 = .ok (.iconst 0, 1) := dk_3 (dk_at dksX2_line_6 4 rfl rfl)
theorem dX2_line_146 : decode cX2_line 146 = .ok (.bipush 100, 2) := dk_16 100 (dk_at dksX2_line_6 5 rfl rfl)
theorem dX2_line_148 : decode cX2_line 148 = .ok (.invokevirtual 124, 3) := dk_182 0 124 (dk_at dksX2_line_6 7 rfl rfl)
theorem dX2_line_151 : decode cX2_line 151 = .ok (.putfield 172, 3) := dk_181 0 172 (dk_at dksX2_line_6 10 rfl rfl)
theorem dX2_line_154 : decode cX2_line 154 = .ok (.goto 24, 3) := dk_167 0 24 (dk_at dksX2_line_6 13 rfl rfl)
theorem dX2_line_157 : decode cX2_line 157 = .ok (.aload_n 0, 1) := dk_42 (dk_at dksX2_line_6 16 rfl rfl)
theorem dX2_line_158 : decode cX2_line 158 = .ok (.ldc 174, 2) := dk_18 174 (dk_at dksX2_line_6 17 rfl rfl)
theorem dX2_line_160 : decode cX2_line 160 = .ok (.invokevirtual 120, 3) := dk_182 0 120 (dk_at dksX2_line_6 19 rfl rfl)
theorem dX2_line_163 : decode cX2_line 163 = .ok (.aload_n 0, 1) := dk_42 (dk_at dksX2_line_6 22 rfl rfl)
theorem dX2_line_164 : decode cX2_line 164 = .ok (.getfield 77, 3) := dk_180 0 77 (dk_at dksX2_line_7 0 rfl rfl)
theorem dX2_line_167 : decode cX2_line 167 = .ok (.aload_n 0, 1) := dk_42 (dk_at dksX2_line_7 3 rfl rfl)
theorem dX2_line_168 : decode cX2_line 168 = .ok (.iconst 0, 1) := dk_3 (dk_at dksX2_line_7 4 rfl rfl)
theorem dX2_line_169 : decode cX2_line 169 = .ok (.sipush 999, 3) := dk_17 3 231 (dk_at dksX2_line_7 5 rfl rfl)
theorem dX2_line_172 : decode cX2_line 172 = .ok (.invokevirtual 124, 3) := dk_182 0 124 (dk_at dksX2_line_7 8 rfl rfl)
theorem dX2_line_175 : decode cX2_line 175 = .ok (.putfield 176, 3) := dk_181 0 176 (dk_at dksX2_line_7 11 rfl rfl)
theorem dX2_line_178 : decode cX2_line 178 = .ok (.return_, 1) := dk_177 (dk_at dksX2_line_7 14 rfl rfl)
abbrev cX2_takes : ByteArray := prog_12_method_6_code
def yX2_takes : MethodName := ⟨RX2, "takes", "(Ljava/lang/String;)Z"⟩
def dkwX2_takes_5 : List UInt8 := [153, 0, 8, 42, 29, 181, 0, 92, 21, 4, 172]
abbrev dktX2_takes_5 : List UInt8 := dkwX2_takes_5 ++ []
def dkwX2_takes_4 : List UInt8 := [21, 5, 182, 0, 105, 160, 0, 7, 4, 167, 0, 4, 3, 54, 4, 132, 5, 1, 167, 255, 211, 21, 4]
abbrev dktX2_takes_4 : List UInt8 := dkwX2_takes_4 ++ dktX2_takes_5
def dkwX2_takes_3 : List UInt8 := [182, 0, 102, 162, 0, 42, 21, 4, 153, 0, 37, 42, 180, 0, 9, 42, 180, 0, 92, 21, 5, 96, 51, 43]
abbrev dktX2_takes_3 : List UInt8 := dkwX2_takes_3 ++ dktX2_takes_4
def dkwX2_takes_2 : List UInt8 := [180, 0, 92, 100, 43, 182, 0, 102, 160, 0, 7, 4, 167, 0, 4, 3, 54, 4, 3, 54, 5, 21, 5, 43]
abbrev dktX2_takes_2 : List UInt8 := dkwX2_takes_2 ++ dktX2_takes_3
def dkwX2_takes_1 : List UInt8 := [16, 97, 161, 0, 20, 42, 180, 0, 9, 29, 51, 16, 122, 163, 0, 9, 132, 3, 1, 167, 255, 223, 29, 42]
abbrev dktX2_takes_1 : List UInt8 := dkwX2_takes_1 ++ dktX2_takes_2
def dkwX2_takes_0 : List UInt8 := [42, 182, 0, 98, 61, 42, 180, 0, 92, 62, 29, 42, 180, 0, 95, 162, 0, 31, 42, 180, 0, 9, 29, 51]
abbrev dktX2_takes_0 : List UInt8 := dkwX2_takes_0 ++ dktX2_takes_1
theorem dksX2_takes_0 : cX2_takes.data.toList.drop 0 = dktX2_takes_0 := by decide +kernel
theorem dksX2_takes_1 : cX2_takes.data.toList.drop 24 = dktX2_takes_1 := dk_seg dksX2_takes_0 24 rfl rfl
theorem dksX2_takes_2 : cX2_takes.data.toList.drop 48 = dktX2_takes_2 := dk_seg dksX2_takes_1 24 rfl rfl
theorem dksX2_takes_3 : cX2_takes.data.toList.drop 72 = dktX2_takes_3 := dk_seg dksX2_takes_2 24 rfl rfl
theorem dksX2_takes_4 : cX2_takes.data.toList.drop 96 = dktX2_takes_4 := dk_seg dksX2_takes_3 24 rfl rfl
theorem dksX2_takes_5 : cX2_takes.data.toList.drop 119 = dktX2_takes_5 := dk_seg dksX2_takes_4 23 rfl rfl
theorem dX2_takes_0 : decode cX2_takes 0 = .ok (.aload_n 0, 1) := dk_42 (dk_at dksX2_takes_0 0 rfl rfl)
theorem dX2_takes_1 : decode cX2_takes 1 = .ok (.invokevirtual 98, 3) := dk_182 0 98 (dk_at dksX2_takes_0 1 rfl rfl)
theorem dX2_takes_4 : decode cX2_takes 4 = .ok (.istore_n 2, 1) := dk_61 (dk_at dksX2_takes_0 4 rfl rfl)
theorem dX2_takes_5 : decode cX2_takes 5 = .ok (.aload_n 0, 1) := dk_42 (dk_at dksX2_takes_0 5 rfl rfl)
theorem dX2_takes_6 : decode cX2_takes 6 = .ok (.getfield 92, 3) := dk_180 0 92 (dk_at dksX2_takes_0 6 rfl rfl)
theorem dX2_takes_9 : decode cX2_takes 9 = .ok (.istore_n 3, 1) := dk_62 (dk_at dksX2_takes_0 9 rfl rfl)
theorem dX2_takes_10 : decode cX2_takes 10 = .ok (.iload_n 3, 1) := dk_29 (dk_at dksX2_takes_0 10 rfl rfl)
theorem dX2_takes_11 : decode cX2_takes 11 = .ok (.aload_n 0, 1) := dk_42 (dk_at dksX2_takes_0 11 rfl rfl)
theorem dX2_takes_12 : decode cX2_takes 12 = .ok (.getfield 95, 3) := dk_180 0 95 (dk_at dksX2_takes_0 12 rfl rfl)
theorem dX2_takes_15 : decode cX2_takes 15 = .ok (.if_icmp .ge 31, 3) := dk_162 0 31 (dk_at dksX2_takes_0 15 rfl rfl)
theorem dX2_takes_18 : decode cX2_takes 18 = .ok (.aload_n 0, 1) := dk_42 (dk_at dksX2_takes_0 18 rfl rfl)
theorem dX2_takes_19 : decode cX2_takes 19 = .ok (.getfield 9, 3) := dk_180 0 9 (dk_at dksX2_takes_0 19 rfl rfl)
theorem dX2_takes_22 : decode cX2_takes 22 = .ok (.iload_n 3, 1) := dk_29 (dk_at dksX2_takes_0 22 rfl rfl)
theorem dX2_takes_23 : decode cX2_takes 23 = .ok (.baload, 1) := dk_51 (dk_at dksX2_takes_0 23 rfl rfl)
theorem dX2_takes_24 : decode cX2_takes 24 = .ok (.bipush 97, 2) := dk_16 97 (dk_at dksX2_takes_1 0 rfl rfl)
theorem dX2_takes_26 : decode cX2_takes 26 = .ok (.if_icmp .lt 20, 3) := dk_161 0 20 (dk_at dksX2_takes_1 2 rfl rfl)
theorem dX2_takes_29 : decode cX2_takes 29 = .ok (.aload_n 0, 1) := dk_42 (dk_at dksX2_takes_1 5 rfl rfl)
theorem dX2_takes_30 : decode cX2_takes 30 = .ok (.getfield 9, 3) := dk_180 0 9 (dk_at dksX2_takes_1 6 rfl rfl)
theorem dX2_takes_33 : decode cX2_takes 33 = .ok (.iload_n 3, 1) := dk_29 (dk_at dksX2_takes_1 9 rfl rfl)
theorem dX2_takes_34 : decode cX2_takes 34 = .ok (.baload, 1) := dk_51 (dk_at dksX2_takes_1 10 rfl rfl)
theorem dX2_takes_35 : decode cX2_takes 35 = .ok (.bipush 122, 2) := dk_16 122 (dk_at dksX2_takes_1 11 rfl rfl)
theorem dX2_takes_37 : decode cX2_takes 37 = .ok (.if_icmp .gt 9, 3) := dk_163 0 9 (dk_at dksX2_takes_1 13 rfl rfl)
theorem dX2_takes_40 : decode cX2_takes 40 = .ok (.iinc 3 1, 3) := dk_132 3 1 (dk_at dksX2_takes_1 16 rfl rfl)
theorem dX2_takes_43 : decode cX2_takes 43 = .ok (.goto (-33), 3) := dk_167 255 223 (dk_at dksX2_takes_1 19 rfl rfl)
theorem dX2_takes_46 : decode cX2_takes 46 = .ok (.iload_n 3, 1) := dk_29 (dk_at dksX2_takes_1 22 rfl rfl)
theorem dX2_takes_47 : decode cX2_takes 47 = .ok (.aload_n 0, 1) := dk_42 (dk_at dksX2_takes_1 23 rfl rfl)
theorem dX2_takes_48 : decode cX2_takes 48 = .ok (.getfield 92, 3) := dk_180 0 92 (dk_at dksX2_takes_2 0 rfl rfl)
theorem dX2_takes_51 : decode cX2_takes 51 = .ok (.isub, 1) := dk_100 (dk_at dksX2_takes_2 3 rfl rfl)
theorem dX2_takes_52 : decode cX2_takes 52 = .ok (.aload_n 1, 1) := dk_43 (dk_at dksX2_takes_2 4 rfl rfl)
theorem dX2_takes_53 : decode cX2_takes 53 = .ok (.invokevirtual 102, 3) := dk_182 0 102 (dk_at dksX2_takes_2 5 rfl rfl)
theorem dX2_takes_56 : decode cX2_takes 56 = .ok (.if_icmp .ne 7, 3) := dk_160 0 7 (dk_at dksX2_takes_2 8 rfl rfl)
theorem dX2_takes_59 : decode cX2_takes 59 = .ok (.iconst 1, 1) := dk_4 (dk_at dksX2_takes_2 11 rfl rfl)
theorem dX2_takes_60 : decode cX2_takes 60 = .ok (.goto 4, 3) := dk_167 0 4 (dk_at dksX2_takes_2 12 rfl rfl)
theorem dX2_takes_63 : decode cX2_takes 63 = .ok (.iconst 0, 1) := dk_3 (dk_at dksX2_takes_2 15 rfl rfl)
theorem dX2_takes_64 : decode cX2_takes 64 = .ok (.istore 4, 2) := dk_54 4 (dk_at dksX2_takes_2 16 rfl rfl)
theorem dX2_takes_66 : decode cX2_takes 66 = .ok (.iconst 0, 1) := dk_3 (dk_at dksX2_takes_2 18 rfl rfl)
theorem dX2_takes_67 : decode cX2_takes 67 = .ok (.istore 5, 2) := dk_54 5 (dk_at dksX2_takes_2 19 rfl rfl)
theorem dX2_takes_69 : decode cX2_takes 69 = .ok (.iload 5, 2) := dk_21 5 (dk_at dksX2_takes_2 21 rfl rfl)
theorem dX2_takes_71 : decode cX2_takes 71 = .ok (.aload_n 1, 1) := dk_43 (dk_at dksX2_takes_2 23 rfl rfl)
theorem dX2_takes_72 : decode cX2_takes 72 = .ok (.invokevirtual 102, 3) := dk_182 0 102 (dk_at dksX2_takes_3 0 rfl rfl)
theorem dX2_takes_75 : decode cX2_takes 75 = .ok (.if_icmp .ge 42, 3) := dk_162 0 42 (dk_at dksX2_takes_3 3 rfl rfl)
theorem dX2_takes_78 : decode cX2_takes 78 = .ok (.iload 4, 2) := dk_21 4 (dk_at dksX2_takes_3 6 rfl rfl)
theorem dX2_takes_80 : decode cX2_takes 80 = .ok (.ifCond .eq 37, 3) := dk_153 0 37 (dk_at dksX2_takes_3 8 rfl rfl)
theorem dX2_takes_83 : decode cX2_takes 83 = .ok (.aload_n 0, 1) := dk_42 (dk_at dksX2_takes_3 11 rfl rfl)
theorem dX2_takes_84 : decode cX2_takes 84 = .ok (.getfield 9, 3) := dk_180 0 9 (dk_at dksX2_takes_3 12 rfl rfl)
theorem dX2_takes_87 : decode cX2_takes 87 = .ok (.aload_n 0, 1) := dk_42 (dk_at dksX2_takes_3 15 rfl rfl)
theorem dX2_takes_88 : decode cX2_takes 88 = .ok (.getfield 92, 3) := dk_180 0 92 (dk_at dksX2_takes_3 16 rfl rfl)
theorem dX2_takes_91 : decode cX2_takes 91 = .ok (.iload 5, 2) := dk_21 5 (dk_at dksX2_takes_3 19 rfl rfl)
theorem dX2_takes_93 : decode cX2_takes 93 = .ok (.iadd, 1) := dk_96 (dk_at dksX2_takes_3 21 rfl rfl)
theorem dX2_takes_94 : decode cX2_takes 94 = .ok (.baload, 1) := dk_51 (dk_at dksX2_takes_3 22 rfl rfl)
theorem dX2_takes_95 : decode cX2_takes 95 = .ok (.aload_n 1, 1) := dk_43 (dk_at dksX2_takes_3 23 rfl rfl)
theorem dX2_takes_96 : decode cX2_takes 96 = .ok (.iload 5, 2) := dk_21 5 (dk_at dksX2_takes_4 0 rfl rfl)
theorem dX2_takes_98 : decode cX2_takes 98 = .ok (.invokevirtual 105, 3) := dk_182 0 105 (dk_at dksX2_takes_4 2 rfl rfl)
theorem dX2_takes_101 : decode cX2_takes 101 = .ok (.if_icmp .ne 7, 3) := dk_160 0 7 (dk_at dksX2_takes_4 5 rfl rfl)
theorem dX2_takes_104 : decode cX2_takes 104 = .ok (.iconst 1, 1) := dk_4 (dk_at dksX2_takes_4 8 rfl rfl)
theorem dX2_takes_105 : decode cX2_takes 105 = .ok (.goto 4, 3) := dk_167 0 4 (dk_at dksX2_takes_4 9 rfl rfl)
theorem dX2_takes_108 : decode cX2_takes 108 = .ok (.iconst 0, 1) := dk_3 (dk_at dksX2_takes_4 12 rfl rfl)
theorem dX2_takes_109 : decode cX2_takes 109 = .ok (.istore 4, 2) := dk_54 4 (dk_at dksX2_takes_4 13 rfl rfl)
theorem dX2_takes_111 : decode cX2_takes 111 = .ok (.iinc 5 1, 3) := dk_132 5 1 (dk_at dksX2_takes_4 15 rfl rfl)
theorem dX2_takes_114 : decode cX2_takes 114 = .ok (.goto (-45), 3) := dk_167 255 211 (dk_at dksX2_takes_4 18 rfl rfl)
theorem dX2_takes_117 : decode cX2_takes 117 = .ok (.iload 4, 2) := dk_21 4 (dk_at dksX2_takes_4 21 rfl rfl)
theorem dX2_takes_119 : decode cX2_takes 119 = .ok (.ifCond .eq 8, 3) := dk_153 0 8 (dk_at dksX2_takes_5 0 rfl rfl)
theorem dX2_takes_122 : decode cX2_takes 122 = .ok (.aload_n 0, 1) := dk_42 (dk_at dksX2_takes_5 3 rfl rfl)
theorem dX2_takes_123 : decode cX2_takes 123 = .ok (.iload_n 3, 1) := dk_29 (dk_at dksX2_takes_5 4 rfl rfl)
theorem dX2_takes_124 : decode cX2_takes 124 = .ok (.putfield 92, 3) := dk_181 0 92 (dk_at dksX2_takes_5 5 rfl rfl)
theorem dX2_takes_127 : decode cX2_takes 127 = .ok (.iload 4, 2) := dk_21 4 (dk_at dksX2_takes_5 8 rfl rfl)
theorem dX2_takes_129 : decode cX2_takes 129 = .ok (.ireturn, 1) := dk_172 (dk_at dksX2_takes_5 10 rfl rfl)
abbrev cX2_addOp : ByteArray := prog_12_method_15_code
def yX2_addOp : MethodName := ⟨RX2, "addOp", "(I)V"⟩
def dkwX2_addOp_6 : List UInt8 := [182, 0, 113, 42, 180, 0, 77, 89, 180, 0, 178, 4, 96, 181, 0, 178, 177]
abbrev dktX2_addOp_6 : List UInt8 := dkwX2_addOp_6 ++ []
def dkwX2_addOp_5 : List UInt8 := [42, 182, 0, 117, 62, 42, 182, 0, 190, 54, 4, 167, 255, 181, 44, 180, 0, 193, 154, 0, 8, 42, 29]
abbrev dktX2_addOp_5 : List UInt8 := dkwX2_addOp_5 ++ dktX2_addOp_6
def dkwX2_addOp_4 : List UInt8 := [6, 16, 9, 79, 184, 0, 194, 153, 0, 13, 42, 3, 16, 7, 182, 0, 124, 167, 0, 4, 3, 182, 0, 198]
abbrev dktX2_addOp_4 : List UInt8 := dkwX2_addOp_4 ++ dktX2_addOp_5
def dkwX2_addOp_3 : List UInt8 := [182, 0, 113, 44, 21, 4, 21, 4, 7, 188, 10, 89, 3, 3, 79, 89, 4, 4, 79, 89, 5, 5, 79, 89]
abbrev dktX2_addOp_3 : List UInt8 := dkwX2_addOp_3 ++ dktX2_addOp_4
def dkwX2_addOp_2 : List UInt8 := [42, 182, 0, 190, 54, 4, 21, 4, 2, 159, 0, 75, 44, 180, 0, 193, 6, 160, 0, 8, 42, 29]
abbrev dktX2_addOp_2 : List UInt8 := dkwX2_addOp_2 ++ dktX2_addOp_3
def dkwX2_addOp_1 : List UInt8 := [42, 180, 0, 77, 180, 0, 178, 50, 77, 44, 42, 18, 35, 182, 0, 109, 182, 0, 185, 42, 182, 0, 117, 62]
abbrev dktX2_addOp_1 : List UInt8 := dkwX2_addOp_1 ++ dktX2_addOp_2
def dkwX2_addOp_0 : List UInt8 := [42, 180, 0, 77, 180, 0, 178, 16, 8, 160, 0, 8, 42, 27, 182, 0, 113, 42, 180, 0, 77, 180, 0, 181]
abbrev dktX2_addOp_0 : List UInt8 := dkwX2_addOp_0 ++ dktX2_addOp_1
theorem dksX2_addOp_0 : cX2_addOp.data.toList.drop 0 = dktX2_addOp_0 := by decide +kernel
theorem dksX2_addOp_1 : cX2_addOp.data.toList.drop 24 = dktX2_addOp_1 := dk_seg dksX2_addOp_0 24 rfl rfl
theorem dksX2_addOp_2 : cX2_addOp.data.toList.drop 48 = dktX2_addOp_2 := dk_seg dksX2_addOp_1 24 rfl rfl
theorem dksX2_addOp_3 : cX2_addOp.data.toList.drop 70 = dktX2_addOp_3 := dk_seg dksX2_addOp_2 22 rfl rfl
theorem dksX2_addOp_4 : cX2_addOp.data.toList.drop 94 = dktX2_addOp_4 := dk_seg dksX2_addOp_3 24 rfl rfl
theorem dksX2_addOp_5 : cX2_addOp.data.toList.drop 118 = dktX2_addOp_5 := dk_seg dksX2_addOp_4 24 rfl rfl
theorem dksX2_addOp_6 : cX2_addOp.data.toList.drop 141 = dktX2_addOp_6 := dk_seg dksX2_addOp_5 23 rfl rfl
theorem dX2_addOp_0 : decode cX2_addOp 0 = .ok (.aload_n 0, 1) := dk_42 (dk_at dksX2_addOp_0 0 rfl rfl)
theorem dX2_addOp_1 : decode cX2_addOp 1 = .ok (.getfield 77, 3) := dk_180 0 77 (dk_at dksX2_addOp_0 1 rfl rfl)
theorem dX2_addOp_4 : decode cX2_addOp 4 = .ok (.getfield 178, 3) := dk_180 0 178 (dk_at dksX2_addOp_0 4 rfl rfl)
theorem dX2_addOp_7 : decode cX2_addOp 7 = .ok (.bipush 8, 2) := dk_16 8 (dk_at dksX2_addOp_0 7 rfl rfl)
theorem dX2_addOp_9 : decode cX2_addOp 9 = .ok (.if_icmp .ne 8, 3) := dk_160 0 8 (dk_at dksX2_addOp_0 9 rfl rfl)
theorem dX2_addOp_12 : decode cX2_addOp 12 = .ok (.aload_n 0, 1) := dk_42 (dk_at dksX2_addOp_0 12 rfl rfl)
theorem dX2_addOp_13 : decode cX2_addOp 13 = .ok (.iload_n 1, 1) := dk_27 (dk_at dksX2_addOp_0 13 rfl rfl)
theorem dX2_addOp_14 : decode cX2_addOp 14 = .ok (.invokevirtual 113, 3) := dk_182 0 113 (dk_at dksX2_addOp_0 14 rfl rfl)
theorem dX2_addOp_17 : decode cX2_addOp 17 = .ok (.aload_n 0, 1) := dk_42 (dk_at dksX2_addOp_0 17 rfl rfl)
theorem dX2_addOp_18 : decode cX2_addOp 18 = .ok (.getfield 77, 3) := dk_180 0 77 (dk_at dksX2_addOp_0 18 rfl rfl)
theorem dX2_addOp_21 : decode cX2_addOp 21 = .ok (.getfield 181, 3) := dk_180 0 181 (dk_at dksX2_addOp_0 21 rfl rfl)
theorem dX2_addOp_24 : decode cX2_addOp 24 = .ok (.aload_n 0, 1) := dk_42 (dk_at dksX2_addOp_1 0 rfl rfl)
theorem dX2_addOp_25 : decode cX2_addOp 25 = .ok (.getfield 77, 3) := dk_180 0 77 (dk_at dksX2_addOp_1 1 rfl rfl)
theorem dX2_addOp_28 : decode cX2_addOp 28 = .ok (.getfield 178, 3) := dk_180 0 178 (dk_at dksX2_addOp_1 4 rfl rfl)
theorem dX2_addOp_31 : decode cX2_addOp 31 = .ok (.aaload, 1) := dk_50 (dk_at dksX2_addOp_1 7 rfl rfl)
theorem dX2_addOp_32 : decode cX2_addOp 32 = .ok (.astore_n 2, 1) := dk_77 (dk_at dksX2_addOp_1 8 rfl rfl)
theorem dX2_addOp_33 : decode cX2_addOp 33 = .ok (.aload_n 2, 1) := dk_44 (dk_at dksX2_addOp_1 9 rfl rfl)
theorem dX2_addOp_34 : decode cX2_addOp 34 = .ok (.aload_n 0, 1) := dk_42 (dk_at dksX2_addOp_1 10 rfl rfl)
theorem dX2_addOp_35 : decode cX2_addOp 35 = .ok (.ldc 35, 2) := dk_18 35 (dk_at dksX2_addOp_1 11 rfl rfl)
theorem dX2_addOp_37 : decode cX2_addOp 37 = .ok (.invokevirtual 109, 3) := dk_182 0 109 (dk_at dksX2_addOp_1 13 rfl rfl)
theorem dX2_addOp_40 : decode cX2_addOp 40 = .ok (.invokevirtual 185, 3) := dk_182 0 185 (dk_at dksX2_addOp_1 16 rfl rfl)
theorem dX2_addOp_43 : decode cX2_addOp 43 = .ok (.aload_n 0, 1) := dk_42 (dk_at dksX2_addOp_1 19 rfl rfl)
theorem dX2_addOp_44 : decode cX2_addOp 44 = .ok (.invokevirtual 117, 3) := dk_182 0 117 (dk_at dksX2_addOp_1 20 rfl rfl)
theorem dX2_addOp_47 : decode cX2_addOp 47 = .ok (.istore_n 3, 1) := dk_62 (dk_at dksX2_addOp_1 23 rfl rfl)
theorem dX2_addOp_48 : decode cX2_addOp 48 = .ok (.aload_n 0, 1) := dk_42 (dk_at dksX2_addOp_2 0 rfl rfl)
theorem dX2_addOp_49 : decode cX2_addOp 49 = .ok (.invokevirtual 190, 3) := dk_182 0 190 (dk_at dksX2_addOp_2 1 rfl rfl)
theorem dX2_addOp_52 : decode cX2_addOp 52 = .ok (.istore 4, 2) := dk_54 4 (dk_at dksX2_addOp_2 4 rfl rfl)
theorem dX2_addOp_54 : decode cX2_addOp 54 = .ok (.iload 4, 2) := dk_21 4 (dk_at dksX2_addOp_2 6 rfl rfl)
theorem dX2_addOp_56 : decode cX2_addOp 56 = .ok (.iconst (-1), 1) := dk_2 (dk_at dksX2_addOp_2 8 rfl rfl)
theorem dX2_addOp_57 : decode cX2_addOp 57 = .ok (.if_icmp .eq 75, 3) := dk_159 0 75 (dk_at dksX2_addOp_2 9 rfl rfl)
theorem dX2_addOp_60 : decode cX2_addOp 60 = .ok (.aload_n 2, 1) := dk_44 (dk_at dksX2_addOp_2 12 rfl rfl)
theorem dX2_addOp_61 : decode cX2_addOp 61 = .ok (.getfield 193, 3) := dk_180 0 193 (dk_at dksX2_addOp_2 13 rfl rfl)
theorem dX2_addOp_64 : decode cX2_addOp 64 = .ok (.iconst 3, 1) := dk_6 (dk_at dksX2_addOp_2 16 rfl rfl)
theorem dX2_addOp_65 : decode cX2_addOp 65 = .ok (.if_icmp .ne 8, 3) := dk_160 0 8 (dk_at dksX2_addOp_2 17 rfl rfl)
theorem dX2_addOp_68 : decode cX2_addOp 68 = .ok (.aload_n 0, 1) := dk_42 (dk_at dksX2_addOp_2 20 rfl rfl)
theorem dX2_addOp_69 : decode cX2_addOp 69 = .ok (.iload_n 3, 1) := dk_29 (dk_at dksX2_addOp_2 21 rfl rfl)
theorem dX2_addOp_70 : decode cX2_addOp 70 = .ok (.invokevirtual 113, 3) := dk_182 0 113 (dk_at dksX2_addOp_3 0 rfl rfl)
theorem dX2_addOp_73 : decode cX2_addOp 73 = .ok (.aload_n 2, 1) := dk_44 (dk_at dksX2_addOp_3 3 rfl rfl)
theorem dX2_addOp_74 : decode cX2_addOp 74 = .ok (.iload 4, 2) := dk_21 4 (dk_at dksX2_addOp_3 4 rfl rfl)
theorem dX2_addOp_76 : decode cX2_addOp 76 = .ok (.iload 4, 2) := dk_21 4 (dk_at dksX2_addOp_3 6 rfl rfl)
theorem dX2_addOp_78 : decode cX2_addOp 78 = .ok (.iconst 4, 1) := dk_7 (dk_at dksX2_addOp_3 8 rfl rfl)
theorem dX2_addOp_79 : decode cX2_addOp 79 = .ok (.newarray .int, 2) := dk_188_10 (dk_at dksX2_addOp_3 9 rfl rfl)
theorem dX2_addOp_81 : decode cX2_addOp 81 = .ok (.dup, 1) := dk_89 (dk_at dksX2_addOp_3 11 rfl rfl)
theorem dX2_addOp_82 : decode cX2_addOp 82 = .ok (.iconst 0, 1) := dk_3 (dk_at dksX2_addOp_3 12 rfl rfl)
theorem dX2_addOp_83 : decode cX2_addOp 83 = .ok (.iconst 0, 1) := dk_3 (dk_at dksX2_addOp_3 13 rfl rfl)
theorem dX2_addOp_84 : decode cX2_addOp 84 = .ok (.iastore, 1) := dk_79 (dk_at dksX2_addOp_3 14 rfl rfl)
theorem dX2_addOp_85 : decode cX2_addOp 85 = .ok (.dup, 1) := dk_89 (dk_at dksX2_addOp_3 15 rfl rfl)
theorem dX2_addOp_86 : decode cX2_addOp 86 = .ok (.iconst 1, 1) := dk_4 (dk_at dksX2_addOp_3 16 rfl rfl)
theorem dX2_addOp_87 : decode cX2_addOp 87 = .ok (.iconst 1, 1) := dk_4 (dk_at dksX2_addOp_3 17 rfl rfl)
theorem dX2_addOp_88 : decode cX2_addOp 88 = .ok (.iastore, 1) := dk_79 (dk_at dksX2_addOp_3 18 rfl rfl)
theorem dX2_addOp_89 : decode cX2_addOp 89 = .ok (.dup, 1) := dk_89 (dk_at dksX2_addOp_3 19 rfl rfl)
theorem dX2_addOp_90 : decode cX2_addOp 90 = .ok (.iconst 2, 1) := dk_5 (dk_at dksX2_addOp_3 20 rfl rfl)
theorem dX2_addOp_91 : decode cX2_addOp 91 = .ok (.iconst 2, 1) := dk_5 (dk_at dksX2_addOp_3 21 rfl rfl)
theorem dX2_addOp_92 : decode cX2_addOp 92 = .ok (.iastore, 1) := dk_79 (dk_at dksX2_addOp_3 22 rfl rfl)
theorem dX2_addOp_93 : decode cX2_addOp 93 = .ok (.dup, 1) := dk_89 (dk_at dksX2_addOp_3 23 rfl rfl)
theorem dX2_addOp_94 : decode cX2_addOp 94 = .ok (.iconst 3, 1) := dk_6 (dk_at dksX2_addOp_4 0 rfl rfl)
theorem dX2_addOp_95 : decode cX2_addOp 95 = .ok (.bipush 9, 2) := dk_16 9 (dk_at dksX2_addOp_4 1 rfl rfl)
theorem dX2_addOp_97 : decode cX2_addOp 97 = .ok (.iastore, 1) := dk_79 (dk_at dksX2_addOp_4 3 rfl rfl)
theorem dX2_addOp_98 : decode cX2_addOp 98 = .ok (.invokestatic 194, 3) := dk_184 0 194 (dk_at dksX2_addOp_4 4 rfl rfl)
theorem dX2_addOp_101 : decode cX2_addOp 101 = .ok (.ifCond .eq 13, 3) := dk_153 0 13 (dk_at dksX2_addOp_4 7 rfl rfl)
theorem dX2_addOp_104 : decode cX2_addOp 104 = .ok (.aload_n 0, 1) := dk_42 (dk_at dksX2_addOp_4 10 rfl rfl)
theorem dX2_addOp_105 : decode cX2_addOp 105 = .ok (.iconst 0, 1) := dk_3 (dk_at dksX2_addOp_4 11 rfl rfl)
theorem dX2_addOp_106 : decode cX2_addOp 106 = .ok (.bipush 7, 2) := dk_16 7 (dk_at dksX2_addOp_4 12 rfl rfl)
theorem dX2_addOp_108 : decode cX2_addOp 108 = .ok (.invokevirtual 124, 3) := dk_182 0 124 (dk_at dksX2_addOp_4 14 rfl rfl)
theorem dX2_addOp_111 : decode cX2_addOp 111 = .ok (.goto 4, 3) := dk_167 0 4 (dk_at dksX2_addOp_4 17 rfl rfl)
theorem dX2_addOp_114 : decode cX2_addOp 114 = .ok (.iconst 0, 1) := dk_3 (dk_at dksX2_addOp_4 20 rfl rfl)
theorem dX2_addOp_115 : decode cX2_addOp 115 = .ok (.invokevirtual 198, 3) := dk_182 0 198 (dk_at dksX2_addOp_4 21 rfl rfl)
theorem dX2_addOp_118 : decode cX2_addOp 118 = .ok (.aload_n 0, 1) := dk_42 (dk_at dksX2_addOp_5 0 rfl rfl)
theorem dX2_addOp_119 : decode cX2_addOp 119 = .ok (.invokevirtual 117, 3) := dk_182 0 117 (dk_at dksX2_addOp_5 1 rfl rfl)
theorem dX2_addOp_122 : decode cX2_addOp 122 = .ok (.istore_n 3, 1) := dk_62 (dk_at dksX2_addOp_5 4 rfl rfl)
theorem dX2_addOp_123 : decode cX2_addOp 123 = .ok (.aload_n 0, 1) := dk_42 (dk_at dksX2_addOp_5 5 rfl rfl)
theorem dX2_addOp_124 : decode cX2_addOp 124 = .ok (.invokevirtual 190, 3) := dk_182 0 190 (dk_at dksX2_addOp_5 6 rfl rfl)
theorem dX2_addOp_127 : decode cX2_addOp 127 = .ok (.istore 4, 2) := dk_54 4 (dk_at dksX2_addOp_5 9 rfl rfl)
theorem dX2_addOp_129 : decode cX2_addOp 129 = .ok (.goto (-75), 3) := dk_167 255 181 (dk_at dksX2_addOp_5 11 rfl rfl)
theorem dX2_addOp_132 : decode cX2_addOp 132 = .ok (.aload_n 2, 1) := dk_44 (dk_at dksX2_addOp_5 14 rfl rfl)
theorem dX2_addOp_133 : decode cX2_addOp 133 = .ok (.getfield 193, 3) := dk_180 0 193 (dk_at dksX2_addOp_5 15 rfl rfl)
theorem dX2_addOp_136 : decode cX2_addOp 136 = .ok (.ifCond .ne 8, 3) := dk_154 0 8 (dk_at dksX2_addOp_5 18 rfl rfl)
theorem dX2_addOp_139 : decode cX2_addOp 139 = .ok (.aload_n 0, 1) := dk_42 (dk_at dksX2_addOp_5 21 rfl rfl)
theorem dX2_addOp_140 : decode cX2_addOp 140 = .ok (.iload_n 3, 1) := dk_29 (dk_at dksX2_addOp_5 22 rfl rfl)
theorem dX2_addOp_141 : decode cX2_addOp 141 = .ok (.invokevirtual 113, 3) := dk_182 0 113 (dk_at dksX2_addOp_6 0 rfl rfl)
theorem dX2_addOp_144 : decode cX2_addOp 144 = .ok (.aload_n 0, 1) := dk_42 (dk_at dksX2_addOp_6 3 rfl rfl)
theorem dX2_addOp_145 : decode cX2_addOp 145 = .ok (.getfield 77, 3) := dk_180 0 77 (dk_at dksX2_addOp_6 4 rfl rfl)
theorem dX2_addOp_148 : decode cX2_addOp 148 = .ok (.dup, 1) := dk_89 (dk_at dksX2_addOp_6 7 rfl rfl)
theorem dX2_addOp_149 : decode cX2_addOp 149 = .ok (.getfield 178, 3) := dk_180 0 178 (dk_at dksX2_addOp_6 8 rfl rfl)
theorem dX2_addOp_152 : decode cX2_addOp 152 = .ok (.iconst 1, 1) := dk_4 (dk_at dksX2_addOp_6 11 rfl rfl)
theorem dX2_addOp_153 : decode cX2_addOp 153 = .ok (.iadd, 1) := dk_96 (dk_at dksX2_addOp_6 12 rfl rfl)
theorem dX2_addOp_154 : decode cX2_addOp 154 = .ok (.putfield 178, 3) := dk_181 0 178 (dk_at dksX2_addOp_6 13 rfl rfl)
theorem dX2_addOp_157 : decode cX2_addOp 157 = .ok (.return_, 1) := dk_177 (dk_at dksX2_addOp_6 16 rfl rfl)
abbrev cX2_here : ByteArray := prog_12_method_4_code
def yX2_here : MethodName := ⟨RX2, "here", "()I"⟩
def dkwX2_here_0 : List UInt8 := [42, 182, 0, 98, 60, 42, 180, 0, 92, 172]
abbrev dktX2_here_0 : List UInt8 := dkwX2_here_0 ++ []
theorem dksX2_here_0 : cX2_here.data.toList.drop 0 = dktX2_here_0 := by decide +kernel
theorem dX2_here_0 : decode cX2_here 0 = .ok (.aload_n 0, 1) := dk_42 (dk_at dksX2_here_0 0 rfl rfl)
theorem dX2_here_1 : decode cX2_here 1 = .ok (.invokevirtual 98, 3) := dk_182 0 98 (dk_at dksX2_here_0 1 rfl rfl)
theorem dX2_here_4 : decode cX2_here 4 = .ok (.istore_n 1, 1) := dk_60 (dk_at dksX2_here_0 4 rfl rfl)
theorem dX2_here_5 : decode cX2_here 5 = .ok (.aload_n 0, 1) := dk_42 (dk_at dksX2_here_0 5 rfl rfl)
theorem dX2_here_6 : decode cX2_here 6 = .ok (.getfield 92, 3) := dk_180 0 92 (dk_at dksX2_here_0 6 rfl rfl)
theorem dX2_here_9 : decode cX2_here 9 = .ok (.ireturn, 1) := dk_172 (dk_at dksX2_here_0 9 rfl rfl)
abbrev cX2_aKind : ByteArray := prog_12_method_14_code
def yX2_aKind : MethodName := ⟨RX2, "aKind", "()I"⟩
def dkwX2_aKind_1 : List UInt8 := [132, 1, 1, 167, 255, 232, 2, 172]
abbrev dktX2_aKind_1 : List UInt8 := dkwX2_aKind_1 ++ []
def dkwX2_aKind_0 : List UInt8 := [3, 60, 27, 16, 11, 162, 0, 24, 42, 42, 180, 0, 66, 27, 50, 182, 0, 109, 153, 0, 5, 27, 172]
abbrev dktX2_aKind_0 : List UInt8 := dkwX2_aKind_0 ++ dktX2_aKind_1
theorem dksX2_aKind_0 : cX2_aKind.data.toList.drop 0 = dktX2_aKind_0 := by decide +kernel
theorem dksX2_aKind_1 : cX2_aKind.data.toList.drop 23 = dktX2_aKind_1 := dk_seg dksX2_aKind_0 23 rfl rfl
theorem dX2_aKind_0 : decode cX2_aKind 0 = .ok (.iconst 0, 1) := dk_3 (dk_at dksX2_aKind_0 0 rfl rfl)
theorem dX2_aKind_1 : decode cX2_aKind 1 = .ok (.istore_n 1, 1) := dk_60 (dk_at dksX2_aKind_0 1 rfl rfl)
theorem dX2_aKind_2 : decode cX2_aKind 2 = .ok (.iload_n 1, 1) := dk_27 (dk_at dksX2_aKind_0 2 rfl rfl)
theorem dX2_aKind_3 : decode cX2_aKind 3 = .ok (.bipush 11, 2) := dk_16 11 (dk_at dksX2_aKind_0 3 rfl rfl)
theorem dX2_aKind_5 : decode cX2_aKind 5 = .ok (.if_icmp .ge 24, 3) := dk_162 0 24 (dk_at dksX2_aKind_0 5 rfl rfl)
theorem dX2_aKind_8 : decode cX2_aKind 8 = .ok (.aload_n 0, 1) := dk_42 (dk_at dksX2_aKind_0 8 rfl rfl)
theorem dX2_aKind_9 : decode cX2_aKind 9 = .ok (.aload_n 0, 1) := dk_42 (dk_at dksX2_aKind_0 9 rfl rfl)
theorem dX2_aKind_10 : decode cX2_aKind 10 = .ok (.getfield 66, 3) := dk_180 0 66 (dk_at dksX2_aKind_0 10 rfl rfl)
theorem dX2_aKind_13 : decode cX2_aKind 13 = .ok (.iload_n 1, 1) := dk_27 (dk_at dksX2_aKind_0 13 rfl rfl)
theorem dX2_aKind_14 : decode cX2_aKind 14 = .ok (.aaload, 1) := dk_50 (dk_at dksX2_aKind_0 14 rfl rfl)
theorem dX2_aKind_15 : decode cX2_aKind 15 = .ok (.invokevirtual 109, 3) := dk_182 0 109 (dk_at dksX2_aKind_0 15 rfl rfl)
theorem dX2_aKind_18 : decode cX2_aKind 18 = .ok (.ifCond .eq 5, 3) := dk_153 0 5 (dk_at dksX2_aKind_0 18 rfl rfl)
theorem dX2_aKind_21 : decode cX2_aKind 21 = .ok (.iload_n 1, 1) := dk_27 (dk_at dksX2_aKind_0 21 rfl rfl)
theorem dX2_aKind_22 : decode cX2_aKind 22 = .ok (.ireturn, 1) := dk_172 (dk_at dksX2_aKind_0 22 rfl rfl)
theorem dX2_aKind_23 : decode cX2_aKind 23 = .ok (.iinc 1 1, 3) := dk_132 1 1 (dk_at dksX2_aKind_1 0 rfl rfl)
theorem dX2_aKind_26 : decode cX2_aKind 26 = .ok (.goto (-24), 3) := dk_167 255 232 (dk_at dksX2_aKind_1 3 rfl rfl)
theorem dX2_aKind_29 : decode cX2_aKind 29 = .ok (.iconst (-1), 1) := dk_2 (dk_at dksX2_aKind_1 6 rfl rfl)
theorem dX2_aKind_30 : decode cX2_aKind 30 = .ok (.ireturn, 1) := dk_172 (dk_at dksX2_aKind_1 7 rfl rfl)
abbrev cX2_number : ByteArray := prog_12_method_8_code
def yX2_number : MethodName := ⟨RX2, "number", "(II)I"⟩
def dkwX2_number_5 : List UInt8 := [21, 4, 172]
abbrev dktX2_number_5 : List UInt8 := dkwX2_number_5 ++ []
def dkwX2_number_4 : List UInt8 := [180, 0, 92, 29, 159, 0, 15, 21, 4, 27, 161, 0, 9, 21, 4, 28, 164, 0, 8, 42, 29, 182, 0, 113]
abbrev dktX2_number_4 : List UInt8 := dkwX2_number_4 ++ dktX2_number_5
def dkwX2_number_3 : List UInt8 := [180, 0, 92, 51, 96, 16, 48, 100, 54, 4, 42, 89, 180, 0, 92, 4, 96, 181, 0, 92, 167, 255, 172, 42]
abbrev dktX2_number_3 : List UInt8 := dkwX2_number_3 ++ dktX2_number_4
def dkwX2_number_2 : List UInt8 := [180, 0, 92, 29, 100, 6, 160, 0, 8, 42, 29, 182, 0, 113, 16, 10, 21, 4, 104, 42, 180, 0, 9, 42]
abbrev dktX2_number_2 : List UInt8 := dkwX2_number_2 ++ dktX2_number_3
def dkwX2_number_1 : List UInt8 := [180, 0, 92, 51, 16, 48, 161, 0, 65, 42, 180, 0, 9, 42, 180, 0, 92, 51, 16, 57, 163, 0, 51, 42]
abbrev dktX2_number_1 : List UInt8 := dkwX2_number_1 ++ dktX2_number_2
def dkwX2_number_0 : List UInt8 := [42, 182, 0, 117, 62, 3, 54, 4, 42, 180, 0, 92, 42, 180, 0, 95, 162, 0, 79, 42, 180, 0, 9, 42]
abbrev dktX2_number_0 : List UInt8 := dkwX2_number_0 ++ dktX2_number_1
theorem dksX2_number_0 : cX2_number.data.toList.drop 0 = dktX2_number_0 := by decide +kernel
theorem dksX2_number_1 : cX2_number.data.toList.drop 24 = dktX2_number_1 := dk_seg dksX2_number_0 24 rfl rfl
theorem dksX2_number_2 : cX2_number.data.toList.drop 48 = dktX2_number_2 := dk_seg dksX2_number_1 24 rfl rfl
theorem dksX2_number_3 : cX2_number.data.toList.drop 72 = dktX2_number_3 := dk_seg dksX2_number_2 24 rfl rfl
theorem dksX2_number_4 : cX2_number.data.toList.drop 96 = dktX2_number_4 := dk_seg dksX2_number_3 24 rfl rfl
theorem dksX2_number_5 : cX2_number.data.toList.drop 120 = dktX2_number_5 := dk_seg dksX2_number_4 24 rfl rfl
theorem dX2_number_0 : decode cX2_number 0 = .ok (.aload_n 0, 1) := dk_42 (dk_at dksX2_number_0 0 rfl rfl)
theorem dX2_number_1 : decode cX2_number 1 = .ok (.invokevirtual 117, 3) := dk_182 0 117 (dk_at dksX2_number_0 1 rfl rfl)
theorem dX2_number_4 : decode cX2_number 4 = .ok (.istore_n 3, 1) := dk_62 (dk_at dksX2_number_0 4 rfl rfl)
theorem dX2_number_5 : decode cX2_number 5 = .ok (.iconst 0, 1) := dk_3 (dk_at dksX2_number_0 5 rfl rfl)
theorem dX2_number_6 : decode cX2_number 6 = .ok (.istore 4, 2) := dk_54 4 (dk_at dksX2_number_0 6 rfl rfl)
theorem dX2_number_8 : decode cX2_number 8 = .ok (.aload_n 0, 1) := dk_42 (dk_at dksX2_number_0 8 rfl rfl)
theorem dX2_number_9 : decode cX2_number 9 = .ok (.getfield 92, 3) := dk_180 0 92 (dk_at dksX2_number_0 9 rfl rfl)
theorem dX2_number_12 : decode cX2_number 12 = .ok (.aload_n 0, 1) := dk_42 (dk_at dksX2_number_0 12 rfl rfl)
theorem dX2_number_13 : decode cX2_number 13 = .ok (.getfield 95, 3) := dk_180 0 95 (dk_at dksX2_number_0 13 rfl rfl)
theorem dX2_number_16 : decode cX2_number 16 = .ok (.if_icmp .ge 79, 3) := dk_162 0 79 (dk_at dksX2_number_0 16 rfl rfl)
theorem dX2_number_19 : decode cX2_number 19 = .ok (.aload_n 0, 1) := dk_42 (dk_at dksX2_number_0 19 rfl rfl)
theorem dX2_number_20 : decode cX2_number 20 = .ok (.getfield 9, 3) := dk_180 0 9 (dk_at dksX2_number_0 20 rfl rfl)
theorem dX2_number_23 : decode cX2_number 23 = .ok (.aload_n 0, 1) := dk_42 (dk_at dksX2_number_0 23 rfl rfl)
theorem dX2_number_24 : decode cX2_number 24 = .ok (.getfield 92, 3) := dk_180 0 92 (dk_at dksX2_number_1 0 rfl rfl)
theorem dX2_number_27 : decode cX2_number 27 = .ok (.baload, 1) := dk_51 (dk_at dksX2_number_1 3 rfl rfl)
theorem dX2_number_28 : decode cX2_number 28 = .ok (.bipush 48, 2) := dk_16 48 (dk_at dksX2_number_1 4 rfl rfl)
theorem dX2_number_30 : decode cX2_number 30 = .ok (.if_icmp .lt 65, 3) := dk_161 0 65 (dk_at dksX2_number_1 6 rfl rfl)
theorem dX2_number_33 : decode cX2_number 33 = .ok (.aload_n 0, 1) := dk_42 (dk_at dksX2_number_1 9 rfl rfl)
theorem dX2_number_34 : decode cX2_number 34 = .ok (.getfield 9, 3) := dk_180 0 9 (dk_at dksX2_number_1 10 rfl rfl)
theorem dX2_number_37 : decode cX2_number 37 = .ok (.aload_n 0, 1) := dk_42 (dk_at dksX2_number_1 13 rfl rfl)
theorem dX2_number_38 : decode cX2_number 38 = .ok (.getfield 92, 3) := dk_180 0 92 (dk_at dksX2_number_1 14 rfl rfl)
theorem dX2_number_41 : decode cX2_number 41 = .ok (.baload, 1) := dk_51 (dk_at dksX2_number_1 17 rfl rfl)
theorem dX2_number_42 : decode cX2_number 42 = .ok (.bipush 57, 2) := dk_16 57 (dk_at dksX2_number_1 18 rfl rfl)
theorem dX2_number_44 : decode cX2_number 44 = .ok (.if_icmp .gt 51, 3) := dk_163 0 51 (dk_at dksX2_number_1 20 rfl rfl)
theorem dX2_number_47 : decode cX2_number 47 = .ok (.aload_n 0, 1) := dk_42 (dk_at dksX2_number_1 23 rfl rfl)
theorem dX2_number_48 : decode cX2_number 48 = .ok (.getfield 92, 3) := dk_180 0 92 (dk_at dksX2_number_2 0 rfl rfl)
theorem dX2_number_51 : decode cX2_number 51 = .ok (.iload_n 3, 1) := dk_29 (dk_at dksX2_number_2 3 rfl rfl)
theorem dX2_number_52 : decode cX2_number 52 = .ok (.isub, 1) := dk_100 (dk_at dksX2_number_2 4 rfl rfl)
theorem dX2_number_53 : decode cX2_number 53 = .ok (.iconst 3, 1) := dk_6 (dk_at dksX2_number_2 5 rfl rfl)
theorem dX2_number_54 : decode cX2_number 54 = .ok (.if_icmp .ne 8, 3) := dk_160 0 8 (dk_at dksX2_number_2 6 rfl rfl)
theorem dX2_number_57 : decode cX2_number 57 = .ok (.aload_n 0, 1) := dk_42 (dk_at dksX2_number_2 9 rfl rfl)
theorem dX2_number_58 : decode cX2_number 58 = .ok (.iload_n 3, 1) := dk_29 (dk_at dksX2_number_2 10 rfl rfl)
theorem dX2_number_59 : decode cX2_number 59 = .ok (.invokevirtual 113, 3) := dk_182 0 113 (dk_at dksX2_number_2 11 rfl rfl)
theorem dX2_number_62 : decode cX2_number 62 = .ok (.bipush 10, 2) := dk_16 10 (dk_at dksX2_number_2 14 rfl rfl)
theorem dX2_number_64 : decode cX2_number 64 = .ok (.iload 4, 2) := dk_21 4 (dk_at dksX2_number_2 16 rfl rfl)
theorem dX2_number_66 : decode cX2_number 66 = .ok (.imul, 1) := dk_104 (dk_at dksX2_number_2 18 rfl rfl)
theorem dX2_number_67 : decode cX2_number 67 = .ok (.aload_n 0, 1) := dk_42 (dk_at dksX2_number_2 19 rfl rfl)
theorem dX2_number_68 : decode cX2_number 68 = .ok (.getfield 9, 3) := dk_180 0 9 (dk_at dksX2_number_2 20 rfl rfl)
theorem dX2_number_71 : decode cX2_number 71 = .ok (.aload_n 0, 1) := dk_42 (dk_at dksX2_number_2 23 rfl rfl)
theorem dX2_number_72 : decode cX2_number 72 = .ok (.getfield 92, 3) := dk_180 0 92 (dk_at dksX2_number_3 0 rfl rfl)
theorem dX2_number_75 : decode cX2_number 75 = .ok (.baload, 1) := dk_51 (dk_at dksX2_number_3 3 rfl rfl)
theorem dX2_number_76 : decode cX2_number 76 = .ok (.iadd, 1) := dk_96 (dk_at dksX2_number_3 4 rfl rfl)
theorem dX2_number_77 : decode cX2_number 77 = .ok (.bipush 48, 2) := dk_16 48 (dk_at dksX2_number_3 5 rfl rfl)
theorem dX2_number_79 : decode cX2_number 79 = .ok (.isub, 1) := dk_100 (dk_at dksX2_number_3 7 rfl rfl)
theorem dX2_number_80 : decode cX2_number 80 = .ok (.istore 4, 2) := dk_54 4 (dk_at dksX2_number_3 8 rfl rfl)
theorem dX2_number_82 : decode cX2_number 82 = .ok (.aload_n 0, 1) := dk_42 (dk_at dksX2_number_3 10 rfl rfl)
theorem dX2_number_83 : decode cX2_number 83 = .ok (.dup, 1) := dk_89 (dk_at dksX2_number_3 11 rfl rfl)
theorem dX2_number_84 : decode cX2_number 84 = .ok (.getfield 92, 3) := dk_180 0 92 (dk_at dksX2_number_3 12 rfl rfl)
theorem dX2_number_87 : decode cX2_number 87 = .ok (.iconst 1, 1) := dk_4 (dk_at dksX2_number_3 15 rfl rfl)
theorem dX2_number_88 : decode cX2_number 88 = .ok (.iadd, 1) := dk_96 (dk_at dksX2_number_3 16 rfl rfl)
theorem dX2_number_89 : decode cX2_number 89 = .ok (.putfield 92, 3) := dk_181 0 92 (dk_at dksX2_number_3 17 rfl rfl)
theorem dX2_number_92 : decode cX2_number 92 = .ok (.goto (-84), 3) := dk_167 255 172 (dk_at dksX2_number_3 20 rfl rfl)
theorem dX2_number_95 : decode cX2_number 95 = .ok (.aload_n 0, 1) := dk_42 (dk_at dksX2_number_3 23 rfl rfl)
theorem dX2_number_96 : decode cX2_number 96 = .ok (.getfield 92, 3) := dk_180 0 92 (dk_at dksX2_number_4 0 rfl rfl)
theorem dX2_number_99 : decode cX2_number 99 = .ok (.iload_n 3, 1) := dk_29 (dk_at dksX2_number_4 3 rfl rfl)
theorem dX2_number_100 : decode cX2_number 100 = .ok (.if_icmp .eq 15, 3) := dk_159 0 15 (dk_at dksX2_number_4 4 rfl rfl)
theorem dX2_number_103 : decode cX2_number 103 = .ok (.iload 4, 2) := dk_21 4 (dk_at dksX2_number_4 7 rfl rfl)
theorem dX2_number_105 : decode cX2_number 105 = .ok (.iload_n 1, 1) := dk_27 (dk_at dksX2_number_4 9 rfl rfl)
theorem dX2_number_106 : decode cX2_number 106 = .ok (.if_icmp .lt 9, 3) := dk_161 0 9 (dk_at dksX2_number_4 10 rfl rfl)
theorem dX2_number_109 : decode cX2_number 109 = .ok (.iload 4, 2) := dk_21 4 (dk_at dksX2_number_4 13 rfl rfl)
theorem dX2_number_111 : decode cX2_number 111 = .ok (.iload_n 2, 1) := dk_28 (dk_at dksX2_number_4 15 rfl rfl)
theorem dX2_number_112 : decode cX2_number 112 = .ok (.if_icmp .le 8, 3) := dk_164 0 8 (dk_at dksX2_number_4 16 rfl rfl)
theorem dX2_number_115 : decode cX2_number 115 = .ok (.aload_n 0, 1) := dk_42 (dk_at dksX2_number_4 19 rfl rfl)
theorem dX2_number_116 : decode cX2_number 116 = .ok (.iload_n 3, 1) := dk_29 (dk_at dksX2_number_4 20 rfl rfl)
theorem dX2_number_117 : decode cX2_number 117 = .ok (.invokevirtual 113, 3) := dk_182 0 113 (dk_at dksX2_number_4 21 rfl rfl)
theorem dX2_number_120 : decode cX2_number 120 = .ok (.iload 4, 2) := dk_21 4 (dk_at dksX2_number_5 0 rfl rfl)
theorem dX2_number_122 : decode cX2_number 122 = .ok (.ireturn, 1) := dk_172 (dk_at dksX2_number_5 2 rfl rfl)
abbrev cX2_programs : ByteArray := prog_12_method_16_code
def yX2_programs : MethodName := ⟨RX2, "programs", "()V"⟩
def dkwX2_programs_3 : List UInt8 := [180, 0, 202, 4, 96, 181, 0, 202, 167, 255, 187, 177]
abbrev dktX2_programs_3 : List UInt8 := dkwX2_programs_3 ++ []
def dkwX2_programs_2 : List UInt8 := [180, 0, 202, 42, 3, 42, 180, 0, 77, 180, 0, 178, 4, 100, 182, 0, 124, 79, 42, 180, 0, 77, 89]
abbrev dktX2_programs_2 : List UInt8 := dkwX2_programs_2 ++ dktX2_programs_3
def dkwX2_programs_1 : List UInt8 := [160, 0, 11, 42, 42, 182, 0, 117, 182, 0, 113, 42, 180, 0, 77, 180, 0, 209, 42, 180, 0, 77]
abbrev dktX2_programs_1 : List UInt8 := dkwX2_programs_1 ++ dktX2_programs_2
def dkwX2_programs_0 : List UInt8 := [42, 180, 0, 77, 3, 181, 0, 202, 42, 182, 0, 205, 153, 0, 68, 42, 180, 0, 77, 180, 0, 202, 16, 10]
abbrev dktX2_programs_0 : List UInt8 := dkwX2_programs_0 ++ dktX2_programs_1
theorem dksX2_programs_0 : cX2_programs.data.toList.drop 0 = dktX2_programs_0 := by decide +kernel
theorem dksX2_programs_1 : cX2_programs.data.toList.drop 24 = dktX2_programs_1 := dk_seg dksX2_programs_0 24 rfl rfl
theorem dksX2_programs_2 : cX2_programs.data.toList.drop 46 = dktX2_programs_2 := dk_seg dksX2_programs_1 22 rfl rfl
theorem dksX2_programs_3 : cX2_programs.data.toList.drop 69 = dktX2_programs_3 := dk_seg dksX2_programs_2 23 rfl rfl
theorem dX2_programs_0 : decode cX2_programs 0 = .ok (.aload_n 0, 1) := dk_42 (dk_at dksX2_programs_0 0 rfl rfl)
theorem dX2_programs_1 : decode cX2_programs 1 = .ok (.getfield 77, 3) := dk_180 0 77 (dk_at dksX2_programs_0 1 rfl rfl)
theorem dX2_programs_4 : decode cX2_programs 4 = .ok (.iconst 0, 1) := dk_3 (dk_at dksX2_programs_0 4 rfl rfl)
theorem dX2_programs_5 : decode cX2_programs 5 = .ok (.putfield 202, 3) := dk_181 0 202 (dk_at dksX2_programs_0 5 rfl rfl)
theorem dX2_programs_8 : decode cX2_programs 8 = .ok (.aload_n 0, 1) := dk_42 (dk_at dksX2_programs_0 8 rfl rfl)
theorem dX2_programs_9 : decode cX2_programs 9 = .ok (.invokevirtual 205, 3) := dk_182 0 205 (dk_at dksX2_programs_0 9 rfl rfl)
theorem dX2_programs_12 : decode cX2_programs 12 = .ok (.ifCond .eq 68, 3) := dk_153 0 68 (dk_at dksX2_programs_0 12 rfl rfl)
theorem dX2_programs_15 : decode cX2_programs 15 = .ok (.aload_n 0, 1) := dk_42 (dk_at dksX2_programs_0 15 rfl rfl)
theorem dX2_programs_16 : decode cX2_programs 16 = .ok (.getfield 77, 3) := dk_180 0 77 (dk_at dksX2_programs_0 16 rfl rfl)
theorem dX2_programs_19 : decode cX2_programs 19 = .ok (.getfield 202, 3) := dk_180 0 202 (dk_at dksX2_programs_0 19 rfl rfl)
theorem dX2_programs_22 : decode cX2_programs 22 = .ok (.bipush 10, 2) := dk_16 10 (dk_at dksX2_programs_0 22 rfl rfl)
theorem dX2_programs_24 : decode cX2_programs 24 = .ok (.if_icmp .ne 11, 3) := dk_160 0 11 (dk_at dksX2_programs_1 0 rfl rfl)
theorem dX2_programs_27 : decode cX2_programs 27 = .ok (.aload_n 0, 1) := dk_42 (dk_at dksX2_programs_1 3 rfl rfl)
theorem dX2_programs_28 : decode cX2_programs 28 = .ok (.aload_n 0, 1) := dk_42 (dk_at dksX2_programs_1 4 rfl rfl)
theorem dX2_programs_29 : decode cX2_programs 29 = .ok (.invokevirtual 117, 3) := dk_182 0 117 (dk_at dksX2_programs_1 5 rfl rfl)
theorem dX2_programs_32 : decode cX2_programs 32 = .ok (.invokevirtual 113, 3) := dk_182 0 113 (dk_at dksX2_programs_1 8 rfl rfl)
theorem dX2_programs_35 : decode cX2_programs 35 = .ok (.aload_n 0, 1) := dk_42 (dk_at dksX2_programs_1 11 rfl rfl)
theorem dX2_programs_36 : decode cX2_programs 36 = .ok (.getfield 77, 3) := dk_180 0 77 (dk_at dksX2_programs_1 12 rfl rfl)
theorem dX2_programs_39 : decode cX2_programs 39 = .ok (.getfield 209, 3) := dk_180 0 209 (dk_at dksX2_programs_1 15 rfl rfl)
theorem dX2_programs_42 : decode cX2_programs 42 = .ok (.aload_n 0, 1) := dk_42 (dk_at dksX2_programs_1 18 rfl rfl)
theorem dX2_programs_43 : decode cX2_programs 43 = .ok (.getfield 77, 3) := dk_180 0 77 (dk_at dksX2_programs_1 19 rfl rfl)
theorem dX2_programs_46 : decode cX2_programs 46 = .ok (.getfield 202, 3) := dk_180 0 202 (dk_at dksX2_programs_2 0 rfl rfl)
theorem dX2_programs_49 : decode cX2_programs 49 = .ok (.aload_n 0, 1) := dk_42 (dk_at dksX2_programs_2 3 rfl rfl)
theorem dX2_programs_50 : decode cX2_programs 50 = .ok (.iconst 0, 1) := dk_3 (dk_at dksX2_programs_2 4 rfl rfl)
theorem dX2_programs_51 : decode cX2_programs 51 = .ok (.aload_n 0, 1) := dk_42 (dk_at dksX2_programs_2 5 rfl rfl)
theorem dX2_programs_52 : decode cX2_programs 52 = .ok (.getfield 77, 3) := dk_180 0 77 (dk_at dksX2_programs_2 6 rfl rfl)
theorem dX2_programs_55 : decode cX2_programs 55 = .ok (.getfield 178, 3) := dk_180 0 178 (dk_at dksX2_programs_2 9 rfl rfl)
theorem dX2_programs_58 : decode cX2_programs 58 = .ok (.iconst 1, 1) := dk_4 (dk_at dksX2_programs_2 12 rfl rfl)
theorem dX2_programs_59 : decode cX2_programs 59 = .ok (.isub, 1) := dk_100 (dk_at dksX2_programs_2 13 rfl rfl)
theorem dX2_programs_60 : decode cX2_programs 60 = .ok (.invokevirtual 124, 3) := dk_182 0 124 (dk_at dksX2_programs_2 14 rfl rfl)
theorem dX2_programs_63 : decode cX2_programs 63 = .ok (.iastore, 1) := dk_79 (dk_at dksX2_programs_2 17 rfl rfl)
theorem dX2_programs_64 : decode cX2_programs 64 = .ok (.aload_n 0, 1) := dk_42 (dk_at dksX2_programs_2 18 rfl rfl)
theorem dX2_programs_65 : decode cX2_programs 65 = .ok (.getfield 77, 3) := dk_180 0 77 (dk_at dksX2_programs_2 19 rfl rfl)
theorem dX2_programs_68 : decode cX2_programs 68 = .ok (.dup, 1) := dk_89 (dk_at dksX2_programs_2 22 rfl rfl)
theorem dX2_programs_69 : decode cX2_programs 69 = .ok (.getfield 202, 3) := dk_180 0 202 (dk_at dksX2_programs_3 0 rfl rfl)
theorem dX2_programs_72 : decode cX2_programs 72 = .ok (.iconst 1, 1) := dk_4 (dk_at dksX2_programs_3 3 rfl rfl)
theorem dX2_programs_73 : decode cX2_programs 73 = .ok (.iadd, 1) := dk_96 (dk_at dksX2_programs_3 4 rfl rfl)
theorem dX2_programs_74 : decode cX2_programs 74 = .ok (.putfield 202, 3) := dk_181 0 202 (dk_at dksX2_programs_3 5 rfl rfl)
theorem dX2_programs_77 : decode cX2_programs 77 = .ok (.goto (-69), 3) := dk_167 255 187 (dk_at dksX2_programs_3 8 rfl rfl)
theorem dX2_programs_80 : decode cX2_programs 80 = .ok (.return_, 1) := dk_177 (dk_at dksX2_programs_3 11 rfl rfl)
abbrev cX2_isFigure : ByteArray := prog_12_method_5_code
def yX2_isFigure : MethodName := ⟨RX2, "isFigure", "()Z"⟩
def dkwX2_isFigure_0 : List UInt8 := [42, 182, 0, 98, 60, 27, 16, 48, 161, 0, 13, 27, 16, 57, 163, 0, 7, 4, 167, 0, 4, 3, 172]
abbrev dktX2_isFigure_0 : List UInt8 := dkwX2_isFigure_0 ++ []
theorem dksX2_isFigure_0 : cX2_isFigure.data.toList.drop 0 = dktX2_isFigure_0 := by decide +kernel
theorem dX2_isFigure_0 : decode cX2_isFigure 0 = .ok (.aload_n 0, 1) := dk_42 (dk_at dksX2_isFigure_0 0 rfl rfl)
theorem dX2_isFigure_1 : decode cX2_isFigure 1 = .ok (.invokevirtual 98, 3) := dk_182 0 98 (dk_at dksX2_isFigure_0 1 rfl rfl)
theorem dX2_isFigure_4 : decode cX2_isFigure 4 = .ok (.istore_n 1, 1) := dk_60 (dk_at dksX2_isFigure_0 4 rfl rfl)
theorem dX2_isFigure_5 : decode cX2_isFigure 5 = .ok (.iload_n 1, 1) := dk_27 (dk_at dksX2_isFigure_0 5 rfl rfl)
theorem dX2_isFigure_6 : decode cX2_isFigure 6 = .ok (.bipush 48, 2) := dk_16 48 (dk_at dksX2_isFigure_0 6 rfl rfl)
theorem dX2_isFigure_8 : decode cX2_isFigure 8 = .ok (.if_icmp .lt 13, 3) := dk_161 0 13 (dk_at dksX2_isFigure_0 8 rfl rfl)
theorem dX2_isFigure_11 : decode cX2_isFigure 11 = .ok (.iload_n 1, 1) := dk_27 (dk_at dksX2_isFigure_0 11 rfl rfl)
theorem dX2_isFigure_12 : decode cX2_isFigure 12 = .ok (.bipush 57, 2) := dk_16 57 (dk_at dksX2_isFigure_0 12 rfl rfl)
theorem dX2_isFigure_14 : decode cX2_isFigure 14 = .ok (.if_icmp .gt 7, 3) := dk_163 0 7 (dk_at dksX2_isFigure_0 14 rfl rfl)
theorem dX2_isFigure_17 : decode cX2_isFigure 17 = .ok (.iconst 1, 1) := dk_4 (dk_at dksX2_isFigure_0 17 rfl rfl)
theorem dX2_isFigure_18 : decode cX2_isFigure 18 = .ok (.goto 4, 3) := dk_167 0 4 (dk_at dksX2_isFigure_0 18 rfl rfl)
theorem dX2_isFigure_21 : decode cX2_isFigure 21 = .ok (.iconst 0, 1) := dk_3 (dk_at dksX2_isFigure_0 21 rfl rfl)
theorem dX2_isFigure_22 : decode cX2_isFigure 22 = .ok (.ireturn, 1) := dk_172 (dk_at dksX2_isFigure_0 22 rfl rfl)
abbrev cX2_fills : ByteArray := prog_12_method_17_code
def yX2_fills : MethodName := ⟨RX2, "fills", "()V"⟩
def dkwX2_fills_2 : List UInt8 := [167, 255, 215, 177]
abbrev dktX2_fills_2 : List UInt8 := dkwX2_fills_2 ++ []
def dkwX2_fills_1 : List UInt8 := [180, 0, 77, 180, 0, 212, 27, 42, 3, 6, 182, 0, 124, 79, 132, 1, 1, 42, 182, 0, 205, 61]
abbrev dktX2_fills_1 : List UInt8 := dkwX2_fills_1 ++ dktX2_fills_2
def dkwX2_fills_0 : List UInt8 := [3, 60, 4, 61, 28, 153, 0, 43, 27, 16, 8, 160, 0, 11, 42, 42, 182, 0, 117, 182, 0, 113, 42]
abbrev dktX2_fills_0 : List UInt8 := dkwX2_fills_0 ++ dktX2_fills_1
theorem dksX2_fills_0 : cX2_fills.data.toList.drop 0 = dktX2_fills_0 := by decide +kernel
theorem dksX2_fills_1 : cX2_fills.data.toList.drop 23 = dktX2_fills_1 := dk_seg dksX2_fills_0 23 rfl rfl
theorem dksX2_fills_2 : cX2_fills.data.toList.drop 45 = dktX2_fills_2 := dk_seg dksX2_fills_1 22 rfl rfl
theorem dX2_fills_0 : decode cX2_fills 0 = .ok (.iconst 0, 1) := dk_3 (dk_at dksX2_fills_0 0 rfl rfl)
theorem dX2_fills_1 : decode cX2_fills 1 = .ok (.istore_n 1, 1) := dk_60 (dk_at dksX2_fills_0 1 rfl rfl)
theorem dX2_fills_2 : decode cX2_fills 2 = .ok (.iconst 1, 1) := dk_4 (dk_at dksX2_fills_0 2 rfl rfl)
theorem dX2_fills_3 : decode cX2_fills 3 = .ok (.istore_n 2, 1) := dk_61 (dk_at dksX2_fills_0 3 rfl rfl)
theorem dX2_fills_4 : decode cX2_fills 4 = .ok (.iload_n 2, 1) := dk_28 (dk_at dksX2_fills_0 4 rfl rfl)
theorem dX2_fills_5 : decode cX2_fills 5 = .ok (.ifCond .eq 43, 3) := dk_153 0 43 (dk_at dksX2_fills_0 5 rfl rfl)
theorem dX2_fills_8 : decode cX2_fills 8 = .ok (.iload_n 1, 1) := dk_27 (dk_at dksX2_fills_0 8 rfl rfl)
theorem dX2_fills_9 : decode cX2_fills 9 = .ok (.bipush 8, 2) := dk_16 8 (dk_at dksX2_fills_0 9 rfl rfl)
theorem dX2_fills_11 : decode cX2_fills 11 = .ok (.if_icmp .ne 11, 3) := dk_160 0 11 (dk_at dksX2_fills_0 11 rfl rfl)
theorem dX2_fills_14 : decode cX2_fills 14 = .ok (.aload_n 0, 1) := dk_42 (dk_at dksX2_fills_0 14 rfl rfl)
theorem dX2_fills_15 : decode cX2_fills 15 = .ok (.aload_n 0, 1) := dk_42 (dk_at dksX2_fills_0 15 rfl rfl)
theorem dX2_fills_16 : decode cX2_fills 16 = .ok (.invokevirtual 117, 3) := dk_182 0 117 (dk_at dksX2_fills_0 16 rfl rfl)
theorem dX2_fills_19 : decode cX2_fills 19 = .ok (.invokevirtual 113, 3) := dk_182 0 113 (dk_at dksX2_fills_0 19 rfl rfl)
theorem dX2_fills_22 : decode cX2_fills 22 = .ok (.aload_n 0, 1) := dk_42 (dk_at dksX2_fills_0 22 rfl rfl)
theorem dX2_fills_23 : decode cX2_fills 23 = .ok (.getfield 77, 3) := dk_180 0 77 (dk_at dksX2_fills_1 0 rfl rfl)
theorem dX2_fills_26 : decode cX2_fills 26 = .ok (.getfield 212, 3) := dk_180 0 212 (dk_at dksX2_fills_1 3 rfl rfl)
theorem dX2_fills_29 : decode cX2_fills 29 = .ok (.iload_n 1, 1) := dk_27 (dk_at dksX2_fills_1 6 rfl rfl)
theorem dX2_fills_30 : decode cX2_fills 30 = .ok (.aload_n 0, 1) := dk_42 (dk_at dksX2_fills_1 7 rfl rfl)
theorem dX2_fills_31 : decode cX2_fills 31 = .ok (.iconst 0, 1) := dk_3 (dk_at dksX2_fills_1 8 rfl rfl)
theorem dX2_fills_32 : decode cX2_fills 32 = .ok (.iconst 3, 1) := dk_6 (dk_at dksX2_fills_1 9 rfl rfl)
theorem dX2_fills_33 : decode cX2_fills 33 = .ok (.invokevirtual 124, 3) := dk_182 0 124 (dk_at dksX2_fills_1 10 rfl rfl)
theorem dX2_fills_36 : decode cX2_fills 36 = .ok (.iastore, 1) := dk_79 (dk_at dksX2_fills_1 13 rfl rfl)
theorem dX2_fills_37 : decode cX2_fills 37 = .ok (.iinc 1 1, 3) := dk_132 1 1 (dk_at dksX2_fills_1 14 rfl rfl)
theorem dX2_fills_40 : decode cX2_fills 40 = .ok (.aload_n 0, 1) := dk_42 (dk_at dksX2_fills_1 17 rfl rfl)
theorem dX2_fills_41 : decode cX2_fills 41 = .ok (.invokevirtual 205, 3) := dk_182 0 205 (dk_at dksX2_fills_1 18 rfl rfl)
theorem dX2_fills_44 : decode cX2_fills 44 = .ok (.istore_n 2, 1) := dk_61 (dk_at dksX2_fills_1 21 rfl rfl)
theorem dX2_fills_45 : decode cX2_fills 45 = .ok (.goto (-41), 3) := dk_167 255 215 (dk_at dksX2_fills_2 0 rfl rfl)
theorem dX2_fills_48 : decode cX2_fills 48 = .ok (.return_, 1) := dk_177 (dk_at dksX2_fills_2 3 rfl rfl)
abbrev cX2_expect : ByteArray := prog_12_method_7_code
def yX2_expect : MethodName := ⟨RX2, "expect", "(Ljava/lang/String;)V"⟩
def dkwX2_expect_0 : List UInt8 := [42, 43, 182, 0, 109, 154, 0, 11, 42, 42, 180, 0, 92, 182, 0, 113, 177]
abbrev dktX2_expect_0 : List UInt8 := dkwX2_expect_0 ++ []
theorem dksX2_expect_0 : cX2_expect.data.toList.drop 0 = dktX2_expect_0 := by decide +kernel
theorem dX2_expect_0 : decode cX2_expect 0 = .ok (.aload_n 0, 1) := dk_42 (dk_at dksX2_expect_0 0 rfl rfl)
theorem dX2_expect_1 : decode cX2_expect 1 = .ok (.aload_n 1, 1) := dk_43 (dk_at dksX2_expect_0 1 rfl rfl)
theorem dX2_expect_2 : decode cX2_expect 2 = .ok (.invokevirtual 109, 3) := dk_182 0 109 (dk_at dksX2_expect_0 2 rfl rfl)
theorem dX2_expect_5 : decode cX2_expect 5 = .ok (.ifCond .ne 11, 3) := dk_154 0 11 (dk_at dksX2_expect_0 5 rfl rfl)
theorem dX2_expect_8 : decode cX2_expect 8 = .ok (.aload_n 0, 1) := dk_42 (dk_at dksX2_expect_0 8 rfl rfl)
theorem dX2_expect_9 : decode cX2_expect 9 = .ok (.aload_n 0, 1) := dk_42 (dk_at dksX2_expect_0 9 rfl rfl)
theorem dX2_expect_10 : decode cX2_expect 10 = .ok (.getfield 92, 3) := dk_180 0 92 (dk_at dksX2_expect_0 10 rfl rfl)
theorem dX2_expect_13 : decode cX2_expect 13 = .ok (.invokevirtual 113, 3) := dk_182 0 113 (dk_at dksX2_expect_0 13 rfl rfl)
theorem dX2_expect_16 : decode cX2_expect 16 = .ok (.return_, 1) := dk_177 (dk_at dksX2_expect_0 16 rfl rfl)
abbrev cX2_laws : ByteArray := prog_12_method_18_code
def yX2_laws : MethodName := ⟨RX2, "laws", "(I)I"⟩
def dkwX2_laws_6 : List UInt8 := [132, 2, 1, 167, 255, 121, 28, 172]
abbrev dktX2_laws_6 : List UInt8 := dkwX2_laws_6 ++ []
def dkwX2_laws_5 : List UInt8 := [21, 4, 25, 5, 183, 0, 231, 167, 0, 14, 187, 0, 232, 89, 21, 4, 25, 5, 183, 0, 234, 83]
abbrev dktX2_laws_5 : List UInt8 := dkwX2_laws_5 ++ dktX2_laws_6
def dkwX2_laws_4 : List UInt8 := [187, 0, 224, 89, 21, 4, 25, 5, 183, 0, 226, 167, 0, 33, 29, 4, 160, 0, 17, 187, 0, 229, 89]
abbrev dktX2_laws_4 : List UInt8 := dkwX2_laws_4 ++ dktX2_laws_5
def dkwX2_laws_3 : List UInt8 := [153, 0, 11, 42, 3, 182, 0, 221, 167, 0, 4, 1, 58, 5, 42, 180, 0, 70, 28, 29, 154, 0, 17]
abbrev dktX2_laws_3 : List UInt8 := dkwX2_laws_3 ++ dktX2_laws_4
def dkwX2_laws_2 : List UInt8 := [160, 0, 9, 42, 18, 217, 182, 0, 120, 42, 3, 16, 40, 182, 0, 124, 54, 4, 42, 18, 219, 182, 0, 109]
abbrev dktX2_laws_2 : List UInt8 := dkwX2_laws_2 ++ dktX2_laws_3
def dkwX2_laws_1 : List UInt8 := [153, 0, 7, 3, 167, 0, 17, 42, 18, 215, 182, 0, 109, 153, 0, 7, 4, 167, 0, 4, 5, 62, 29, 5]
abbrev dktX2_laws_1 : List UInt8 := dkwX2_laws_1 ++ dktX2_laws_2
def dkwX2_laws_0 : List UInt8 := [42, 27, 182, 0, 131, 3, 61, 42, 28, 16, 12, 182, 0, 138, 153, 0, 131, 42, 18, 166, 182, 0, 109]
abbrev dktX2_laws_0 : List UInt8 := dkwX2_laws_0 ++ dktX2_laws_1
theorem dksX2_laws_0 : cX2_laws.data.toList.drop 0 = dktX2_laws_0 := by decide +kernel
theorem dksX2_laws_1 : cX2_laws.data.toList.drop 23 = dktX2_laws_1 := dk_seg dksX2_laws_0 23 rfl rfl
theorem dksX2_laws_2 : cX2_laws.data.toList.drop 47 = dktX2_laws_2 := dk_seg dksX2_laws_1 24 rfl rfl
theorem dksX2_laws_3 : cX2_laws.data.toList.drop 71 = dktX2_laws_3 := dk_seg dksX2_laws_2 24 rfl rfl
theorem dksX2_laws_4 : cX2_laws.data.toList.drop 94 = dktX2_laws_4 := dk_seg dksX2_laws_3 23 rfl rfl
theorem dksX2_laws_5 : cX2_laws.data.toList.drop 117 = dktX2_laws_5 := dk_seg dksX2_laws_4 23 rfl rfl
theorem dksX2_laws_6 : cX2_laws.data.toList.drop 139 = dktX2_laws_6 := dk_seg dksX2_laws_5 22 rfl rfl
theorem dX2_laws_0 : decode cX2_laws 0 = .ok (.aload_n 0, 1) := dk_42 (dk_at dksX2_laws_0 0 rfl rfl)
theorem dX2_laws_1 : decode cX2_laws 1 = .ok (.iload_n 1, 1) := dk_27 (dk_at dksX2_laws_0 1 rfl rfl)
theorem dX2_laws_2 : decode cX2_laws 2 = .ok (.invokevirtual 131, 3) := dk_182 0 131 (dk_at dksX2_laws_0 2 rfl rfl)
theorem dX2_laws_5 : decode cX2_laws 5 = .ok (.iconst 0, 1) := dk_3 (dk_at dksX2_laws_0 5 rfl rfl)
theorem dX2_laws_6 : decode cX2_laws 6 = .ok (.istore_n 2, 1) := dk_61 (dk_at dksX2_laws_0 6 rfl rfl)
theorem dX2_laws_7 : decode cX2_laws 7 = .ok (.aload_n 0, 1) := dk_42 (dk_at dksX2_laws_0 7 rfl rfl)
theorem dX2_laws_8 : decode cX2_laws 8 = .ok (.iload_n 2, 1) := dk_28 (dk_at dksX2_laws_0 8 rfl rfl)
theorem dX2_laws_9 : decode cX2_laws 9 = .ok (.bipush 12, 2) := dk_16 12 (dk_at dksX2_laws_0 9 rfl rfl)
theorem dX2_laws_11 : decode cX2_laws 11 = .ok (.invokevirtual 138, 3) := dk_182 0 138 (dk_at dksX2_laws_0 11 rfl rfl)
theorem dX2_laws_14 : decode cX2_laws 14 = .ok (.ifCond .eq 131, 3) := dk_153 0 131 (dk_at dksX2_laws_0 14 rfl rfl)
theorem dX2_laws_17 : decode cX2_laws 17 = .ok (.aload_n 0, 1) := dk_42 (dk_at dksX2_laws_0 17 rfl rfl)
theorem dX2_laws_18 : decode cX2_laws 18 = .ok (.ldc 166, 2) := dk_18 166 (dk_at dksX2_laws_0 18 rfl rfl)
theorem dX2_laws_20 : decode cX2_laws 20 = .ok (.invokevirtual 109, 3) := dk_182 0 109 (dk_at dksX2_laws_0 20 rfl rfl)
theorem dX2_laws_23 : decode cX2_laws 23 = .ok (.ifCond .eq 7, 3) := dk_153 0 7 (dk_at dksX2_laws_1 0 rfl rfl)
theorem dX2_laws_26 : decode cX2_laws 26 = .ok (.iconst 0, 1) := dk_3 (dk_at dksX2_laws_1 3 rfl rfl)
theorem dX2_laws_27 : decode cX2_laws 27 = .ok (.goto 17, 3) := dk_167 0 17 (dk_at dksX2_laws_1 4 rfl rfl)
theorem dX2_laws_30 : decode cX2_laws 30 = .ok (.aload_n 0, 1) := dk_42 (dk_at dksX2_laws_1 7 rfl rfl)
theorem dX2_laws_31 : decode cX2_laws 31 = .ok (.ldc 215, 2) := dk_18 215 (dk_at dksX2_laws_1 8 rfl rfl)
theorem dX2_laws_33 : decode cX2_laws 33 = .ok (.invokevirtual 109, 3) := dk_182 0 109 (dk_at dksX2_laws_1 10 rfl rfl)
theorem dX2_laws_36 : decode cX2_laws 36 = .ok (.ifCond .eq 7, 3) := dk_153 0 7 (dk_at dksX2_laws_1 13 rfl rfl)
theorem dX2_laws_39 : decode cX2_laws 39 = .ok (.iconst 1, 1) := dk_4 (dk_at dksX2_laws_1 16 rfl rfl)
theorem dX2_laws_40 : decode cX2_laws 40 = .ok (.goto 4, 3) := dk_167 0 4 (dk_at dksX2_laws_1 17 rfl rfl)
theorem dX2_laws_43 : decode cX2_laws 43 = .ok (.iconst 2, 1) := dk_5 (dk_at dksX2_laws_1 20 rfl rfl)
theorem dX2_laws_44 : decode cX2_laws 44 = .ok (.istore_n 3, 1) := dk_62 (dk_at dksX2_laws_1 21 rfl rfl)
theorem dX2_laws_45 : decode cX2_laws 45 = .ok (.iload_n 3, 1) := dk_29 (dk_at dksX2_laws_1 22 rfl rfl)
theorem dX2_laws_46 : decode cX2_laws 46 = .ok (.iconst 2, 1) := dk_5 (dk_at dksX2_laws_1 23 rfl rfl)
theorem dX2_laws_47 : decode cX2_laws 47 = .ok (.if_icmp .ne 9, 3) := dk_160 0 9 (dk_at dksX2_laws_2 0 rfl rfl)
theorem dX2_laws_50 : decode cX2_laws 50 = .ok (.aload_n 0, 1) := dk_42 (dk_at dksX2_laws_2 3 rfl rfl)
theorem dX2_laws_51 : decode cX2_laws 51 = .ok (.ldc 217, 2) := dk_18 217 (dk_at dksX2_laws_2 4 rfl rfl)
theorem dX2_laws_53 : decode cX2_laws 53 = .ok (.invokevirtual 120, 3) := dk_182 0 120 (dk_at dksX2_laws_2 6 rfl rfl)
theorem dX2_laws_56 : decode cX2_laws 56 = .ok (.aload_n 0, 1) := dk_42 (dk_at dksX2_laws_2 9 rfl rfl)
theorem dX2_laws_57 : decode cX2_laws 57 = .ok (.iconst 0, 1) := dk_3 (dk_at dksX2_laws_2 10 rfl rfl)
theorem dX2_laws_58 : decode cX2_laws 58 = .ok (.bipush 40, 2) := dk_16 40 (dk_at dksX2_laws_2 11 rfl rfl)
theorem dX2_laws_60 : decode cX2_laws 60 = .ok (.invokevirtual 124, 3) := dk_182 0 124 (dk_at dksX2_laws_2 13 rfl rfl)
theorem dX2_laws_63 : decode cX2_laws 63 = .ok (.istore 4, 2) := dk_54 4 (dk_at dksX2_laws_2 16 rfl rfl)
theorem dX2_laws_65 : decode cX2_laws 65 = .ok (.aload_n 0, 1) := dk_42 (dk_at dksX2_laws_2 18 rfl rfl)
theorem dX2_laws_66 : decode cX2_laws 66 = .ok (.ldc 219, 2) := dk_18 219 (dk_at dksX2_laws_2 19 rfl rfl)
theorem dX2_laws_68 : decode cX2_laws 68 = .ok (.invokevirtual 109, 3) := dk_182 0 109 (dk_at dksX2_laws_2 21 rfl rfl)
theorem dX2_laws_71 : decode cX2_laws 71 = .ok (.ifCond .eq 11, 3) := dk_153 0 11 (dk_at dksX2_laws_3 0 rfl rfl)
theorem dX2_laws_74 : decode cX2_laws 74 = .ok (.aload_n 0, 1) := dk_42 (dk_at dksX2_laws_3 3 rfl rfl)
theorem dX2_laws_75 : decode cX2_laws 75 = .ok (.iconst 0, 1) := dk_3 (dk_at dksX2_laws_3 4 rfl rfl)
theorem dX2_laws_76 : decode cX2_laws 76 = .ok (.invokevirtual 221, 3) := dk_182 0 221 (dk_at dksX2_laws_3 5 rfl rfl)
theorem dX2_laws_79 : decode cX2_laws 79 = .ok (.goto 4, 3) := dk_167 0 4 (dk_at dksX2_laws_3 8 rfl rfl)
theorem dX2_laws_82 : decode cX2_laws 82 = .ok (.aconst_null, 1) := dk_1 (dk_at dksX2_laws_3 11 rfl rfl)
theorem dX2_laws_83 : decode cX2_laws 83 = .ok (.astore 5, 2) := dk_58 5 (dk_at dksX2_laws_3 12 rfl rfl)
theorem dX2_laws_85 : decode cX2_laws 85 = .ok (.aload_n 0, 1) := dk_42 (dk_at dksX2_laws_3 14 rfl rfl)
theorem dX2_laws_86 : decode cX2_laws 86 = .ok (.getfield 70, 3) := dk_180 0 70 (dk_at dksX2_laws_3 15 rfl rfl)
theorem dX2_laws_89 : decode cX2_laws 89 = .ok (.iload_n 2, 1) := dk_28 (dk_at dksX2_laws_3 18 rfl rfl)
theorem dX2_laws_90 : decode cX2_laws 90 = .ok (.iload_n 3, 1) := dk_29 (dk_at dksX2_laws_3 19 rfl rfl)
theorem dX2_laws_91 : decode cX2_laws 91 = .ok (.ifCond .ne 17, 3) := dk_154 0 17 (dk_at dksX2_laws_3 20 rfl rfl)
theorem dX2_laws_94 : decode cX2_laws 94 = .ok (.new 224, 3) := dk_187 0 224 (dk_at dksX2_laws_4 0 rfl rfl)
theorem dX2_laws_97 : decode cX2_laws 97 = .ok (.dup, 1) := dk_89 (dk_at dksX2_laws_4 3 rfl rfl)
theorem dX2_laws_98 : decode cX2_laws 98 = .ok (.iload 4, 2) := dk_21 4 (dk_at dksX2_laws_4 4 rfl rfl)
theorem dX2_laws_100 : decode cX2_laws 100 = .ok (.aload 5, 2) := dk_25 5 (dk_at dksX2_laws_4 6 rfl rfl)
theorem dX2_laws_102 : decode cX2_laws 102 = .ok (.invokespecial 226, 3) := dk_183 0 226 (dk_at dksX2_laws_4 8 rfl rfl)
theorem dX2_laws_105 : decode cX2_laws 105 = .ok (.goto 33, 3) := dk_167 0 33 (dk_at dksX2_laws_4 11 rfl rfl)
theorem dX2_laws_108 : decode cX2_laws 108 = .ok (.iload_n 3, 1) := dk_29 (dk_at dksX2_laws_4 14 rfl rfl)
theorem dX2_laws_109 : decode cX2_laws 109 = .ok (.iconst 1, 1) := dk_4 (dk_at dksX2_laws_4 15 rfl rfl)
theorem dX2_laws_110 : decode cX2_laws 110 = .ok (.if_icmp .ne 17, 3) := dk_160 0 17 (dk_at dksX2_laws_4 16 rfl rfl)
theorem dX2_laws_113 : decode cX2_laws 113 = .ok (.new 229, 3) := dk_187 0 229 (dk_at dksX2_laws_4 19 rfl rfl)
theorem dX2_laws_116 : decode cX2_laws 116 = .ok (.dup, 1) := dk_89 (dk_at dksX2_laws_4 22 rfl rfl)
theorem dX2_laws_117 : decode cX2_laws 117 = .ok (.iload 4, 2) := dk_21 4 (dk_at dksX2_laws_5 0 rfl rfl)
theorem dX2_laws_119 : decode cX2_laws 119 = .ok (.aload 5, 2) := dk_25 5 (dk_at dksX2_laws_5 2 rfl rfl)
theorem dX2_laws_121 : decode cX2_laws 121 = .ok (.invokespecial 231, 3) := dk_183 0 231 (dk_at dksX2_laws_5 4 rfl rfl)
theorem dX2_laws_124 : decode cX2_laws 124 = .ok (.goto 14, 3) := dk_167 0 14 (dk_at dksX2_laws_5 7 rfl rfl)
theorem dX2_laws_127 : decode cX2_laws 127 = .ok (.new 232, 3) := dk_187 0 232 (dk_at dksX2_laws_5 10 rfl rfl)
theorem dX2_laws_130 : decode cX2_laws 130 = .ok (.dup, 1) := dk_89 (dk_at dksX2_laws_5 13 rfl rfl)
theorem dX2_laws_131 : decode cX2_laws 131 = .ok (.iload 4, 2) := dk_21 4 (dk_at dksX2_laws_5 14 rfl rfl)
theorem dX2_laws_133 : decode cX2_laws 133 = .ok (.aload 5, 2) := dk_25 5 (dk_at dksX2_laws_5 16 rfl rfl)
theorem dX2_laws_135 : decode cX2_laws 135 = .ok (.invokespecial 234, 3) := dk_183 0 234 (dk_at dksX2_laws_5 18 rfl rfl)
theorem dX2_laws_138 : decode cX2_laws 138 = .ok (.aastore, 1) := dk_83 (dk_at dksX2_laws_5 21 rfl rfl)
theorem dX2_laws_139 : decode cX2_laws 139 = .ok (.iinc 2 1, 3) := dk_132 2 1 (dk_at dksX2_laws_6 0 rfl rfl)
theorem dX2_laws_142 : decode cX2_laws 142 = .ok (.goto (-135), 3) := dk_167 255 121 (dk_at dksX2_laws_6 3 rfl rfl)
theorem dX2_laws_145 : decode cX2_laws 145 = .ok (.iload_n 2, 1) := dk_28 (dk_at dksX2_laws_6 6 rfl rfl)
theorem dX2_laws_146 : decode cX2_laws 146 = .ok (.ireturn, 1) := dk_172 (dk_at dksX2_laws_6 7 rfl rfl)
abbrev cX2_row : ByteArray := prog_12_method_19_code
def yX2_row : MethodName := ⟨RX2, "row", "(Z)LGuestView$Cond;"⟩
def dkwX2_row_3 : List UInt8 := [181, 0, 248, 45, 180, 0, 248, 78, 167, 255, 205, 44, 176]
abbrev dktX2_row_3 : List UInt8 := dkwX2_row_3 ++ []
def dkwX2_row_2 : List UInt8 := [187, 0, 235, 89, 27, 153, 0, 10, 42, 182, 0, 237, 167, 0, 8, 42, 4, 182, 0, 221, 27, 183, 0, 241]
abbrev dktX2_row_2 : List UInt8 := dkwX2_row_2 ++ dktX2_row_3
def dkwX2_row_1 : List UInt8 := [77, 44, 78, 42, 27, 153, 0, 8, 18, 244, 167, 0, 5, 18, 246, 182, 0, 109, 153, 0, 39, 45]
abbrev dktX2_row_1 : List UInt8 := dkwX2_row_1 ++ dktX2_row_2
def dkwX2_row_0 : List UInt8 := [187, 0, 235, 89, 27, 153, 0, 10, 42, 182, 0, 237, 167, 0, 8, 42, 4, 182, 0, 221, 27, 183, 0, 241]
abbrev dktX2_row_0 : List UInt8 := dkwX2_row_0 ++ dktX2_row_1
theorem dksX2_row_0 : cX2_row.data.toList.drop 0 = dktX2_row_0 := by decide +kernel
theorem dksX2_row_1 : cX2_row.data.toList.drop 24 = dktX2_row_1 := dk_seg dksX2_row_0 24 rfl rfl
theorem dksX2_row_2 : cX2_row.data.toList.drop 46 = dktX2_row_2 := dk_seg dksX2_row_1 22 rfl rfl
theorem dksX2_row_3 : cX2_row.data.toList.drop 70 = dktX2_row_3 := dk_seg dksX2_row_2 24 rfl rfl
theorem dX2_row_0 : decode cX2_row 0 = .ok (.new 235, 3) := dk_187 0 235 (dk_at dksX2_row_0 0 rfl rfl)
theorem dX2_row_3 : decode cX2_row 3 = .ok (.dup, 1) := dk_89 (dk_at dksX2_row_0 3 rfl rfl)
theorem dX2_row_4 : decode cX2_row 4 = .ok (.iload_n 1, 1) := dk_27 (dk_at dksX2_row_0 4 rfl rfl)
theorem dX2_row_5 : decode cX2_row 5 = .ok (.ifCond .eq 10, 3) := dk_153 0 10 (dk_at dksX2_row_0 5 rfl rfl)
theorem dX2_row_8 : decode cX2_row 8 = .ok (.aload_n 0, 1) := dk_42 (dk_at dksX2_row_0 8 rfl rfl)
theorem dX2_row_9 : decode cX2_row 9 = .ok (.invokevirtual 237, 3) := dk_182 0 237 (dk_at dksX2_row_0 9 rfl rfl)
theorem dX2_row_12 : decode cX2_row 12 = .ok (.goto 8, 3) := dk_167 0 8 (dk_at dksX2_row_0 12 rfl rfl)
theorem dX2_row_15 : decode cX2_row 15 = .ok (.aload_n 0, 1) := dk_42 (dk_at dksX2_row_0 15 rfl rfl)
theorem dX2_row_16 : decode cX2_row 16 = .ok (.iconst 1, 1) := dk_4 (dk_at dksX2_row_0 16 rfl rfl)
theorem dX2_row_17 : decode cX2_row 17 = .ok (.invokevirtual 221, 3) := dk_182 0 221 (dk_at dksX2_row_0 17 rfl rfl)
theorem dX2_row_20 : decode cX2_row 20 = .ok (.iload_n 1, 1) := dk_27 (dk_at dksX2_row_0 20 rfl rfl)
theorem dX2_row_21 : decode cX2_row 21 = .ok (.invokespecial 241, 3) := dk_183 0 241 (dk_at dksX2_row_0 21 rfl rfl)
theorem dX2_row_24 : decode cX2_row 24 = .ok (.astore_n 2, 1) := dk_77 (dk_at dksX2_row_1 0 rfl rfl)
theorem dX2_row_25 : decode cX2_row 25 = .ok (.aload_n 2, 1) := dk_44 (dk_at dksX2_row_1 1 rfl rfl)
theorem dX2_row_26 : decode cX2_row 26 = .ok (.astore_n 3, 1) := dk_78 (dk_at dksX2_row_1 2 rfl rfl)
theorem dX2_row_27 : decode cX2_row 27 = .ok (.aload_n 0, 1) := dk_42 (dk_at dksX2_row_1 3 rfl rfl)
theorem dX2_row_28 : decode cX2_row 28 = .ok (.iload_n 1, 1) := dk_27 (dk_at dksX2_row_1 4 rfl rfl)
theorem dX2_row_29 : decode cX2_row 29 = .ok (.ifCond .eq 8, 3) := dk_153 0 8 (dk_at dksX2_row_1 5 rfl rfl)
theorem dX2_row_32 : decode cX2_row 32 = .ok (.ldc 244, 2) := dk_18 244 (dk_at dksX2_row_1 8 rfl rfl)
theorem dX2_row_34 : decode cX2_row 34 = .ok (.goto 5, 3) := dk_167 0 5 (dk_at dksX2_row_1 10 rfl rfl)
theorem dX2_row_37 : decode cX2_row 37 = .ok (.ldc 246, 2) := dk_18 246 (dk_at dksX2_row_1 13 rfl rfl)
theorem dX2_row_39 : decode cX2_row 39 = .ok (.invokevirtual 109, 3) := dk_182 0 109 (dk_at dksX2_row_1 15 rfl rfl)
theorem dX2_row_42 : decode cX2_row 42 = .ok (.ifCond .eq 39, 3) := dk_153 0 39 (dk_at dksX2_row_1 18 rfl rfl)
theorem dX2_row_45 : decode cX2_row 45 = .ok (.aload_n 3, 1) := dk_45 (dk_at dksX2_row_1 21 rfl rfl)
theorem dX2_row_46 : decode cX2_row 46 = .ok (.new 235, 3) := dk_187 0 235 (dk_at dksX2_row_2 0 rfl rfl)
theorem dX2_row_49 : decode cX2_row 49 = .ok (.dup, 1) := dk_89 (dk_at dksX2_row_2 3 rfl rfl)
theorem dX2_row_50 : decode cX2_row 50 = .ok (.iload_n 1, 1) := dk_27 (dk_at dksX2_row_2 4 rfl rfl)
theorem dX2_row_51 : decode cX2_row 51 = .ok (.ifCond .eq 10, 3) := dk_153 0 10 (dk_at dksX2_row_2 5 rfl rfl)
theorem dX2_row_54 : decode cX2_row 54 = .ok (.aload_n 0, 1) := dk_42 (dk_at dksX2_row_2 8 rfl rfl)
theorem dX2_row_55 : decode cX2_row 55 = .ok (.invokevirtual 237, 3) := dk_182 0 237 (dk_at dksX2_row_2 9 rfl rfl)
theorem dX2_row_58 : decode cX2_row 58 = .ok (.goto 8, 3) := dk_167 0 8 (dk_at dksX2_row_2 12 rfl rfl)
theorem dX2_row_61 : decode cX2_row 61 = .ok (.aload_n 0, 1) := dk_42 (dk_at dksX2_row_2 15 rfl rfl)
theorem dX2_row_62 : decode cX2_row 62 = .ok (.iconst 1, 1) := dk_4 (dk_at dksX2_row_2 16 rfl rfl)
theorem dX2_row_63 : decode cX2_row 63 = .ok (.invokevirtual 221, 3) := dk_182 0 221 (dk_at dksX2_row_2 17 rfl rfl)
theorem dX2_row_66 : decode cX2_row 66 = .ok (.iload_n 1, 1) := dk_27 (dk_at dksX2_row_2 20 rfl rfl)
theorem dX2_row_67 : decode cX2_row 67 = .ok (.invokespecial 241, 3) := dk_183 0 241 (dk_at dksX2_row_2 21 rfl rfl)
theorem dX2_row_70 : decode cX2_row 70 = .ok (.putfield 248, 3) := dk_181 0 248 (dk_at dksX2_row_3 0 rfl rfl)
theorem dX2_row_73 : decode cX2_row 73 = .ok (.aload_n 3, 1) := dk_45 (dk_at dksX2_row_3 3 rfl rfl)
theorem dX2_row_74 : decode cX2_row 74 = .ok (.getfield 248, 3) := dk_180 0 248 (dk_at dksX2_row_3 4 rfl rfl)
theorem dX2_row_77 : decode cX2_row 77 = .ok (.astore_n 3, 1) := dk_78 (dk_at dksX2_row_3 7 rfl rfl)
theorem dX2_row_78 : decode cX2_row 78 = .ok (.goto (-51), 3) := dk_167 255 205 (dk_at dksX2_row_3 8 rfl rfl)
theorem dX2_row_81 : decode cX2_row 81 = .ok (.aload_n 2, 1) := dk_44 (dk_at dksX2_row_3 11 rfl rfl)
theorem dX2_row_82 : decode cX2_row 82 = .ok (.areturn, 1) := dk_176 (dk_at dksX2_row_3 12 rfl rfl)
abbrev cX2_atom : ByteArray := prog_12_method_20_code
def yX2_atom : MethodName := ⟨RX2, "atom", "()LGuestView$Cond;"⟩
def dkwX2_atom_5 : List UInt8 := [181, 0, 92, 42, 89, 180, 0, 128, 4, 100, 181, 0, 128, 25, 4, 176]
abbrev dktX2_atom_5 : List UInt8 := dkwX2_atom_5 ++ []
def dkwX2_atom_4 : List UInt8 := [182, 0, 98, 16, 41, 159, 0, 11, 42, 42, 180, 0, 92, 182, 0, 113, 42, 89, 180, 0, 92, 4, 96]
abbrev dktX2_atom_4 : List UInt8 := dkwX2_atom_4 ++ dktX2_atom_5
def dkwX2_atom_3 : List UInt8 := [58, 4, 167, 0, 47, 42, 89, 180, 0, 92, 4, 96, 181, 0, 92, 42, 3, 182, 0, 221, 58, 4, 42]
abbrev dktX2_atom_3 : List UInt8 := dkwX2_atom_3 ++ dktX2_atom_4
def dkwX2_atom_2 : List UInt8 := [180, 0, 128, 4, 96, 181, 0, 128, 29, 153, 0, 19, 187, 1, 1, 89, 42, 182, 0, 237, 183, 1, 3]
abbrev dktX2_atom_2 : List UInt8 := dkwX2_atom_2 ++ dktX2_atom_3
def dkwX2_atom_1 : List UInt8 := [159, 0, 8, 42, 182, 0, 254, 176, 42, 180, 0, 128, 16, 6, 160, 0, 8, 42, 28, 182, 0, 113, 42, 89]
abbrev dktX2_atom_1 : List UInt8 := dkwX2_atom_1 ++ dktX2_atom_2
def dkwX2_atom_0 : List UInt8 := [42, 182, 0, 98, 60, 42, 180, 0, 92, 61, 42, 18, 252, 182, 0, 109, 62, 29, 154, 0, 14, 27, 16, 40]
abbrev dktX2_atom_0 : List UInt8 := dkwX2_atom_0 ++ dktX2_atom_1
theorem dksX2_atom_0 : cX2_atom.data.toList.drop 0 = dktX2_atom_0 := by decide +kernel
theorem dksX2_atom_1 : cX2_atom.data.toList.drop 24 = dktX2_atom_1 := dk_seg dksX2_atom_0 24 rfl rfl
theorem dksX2_atom_2 : cX2_atom.data.toList.drop 48 = dktX2_atom_2 := dk_seg dksX2_atom_1 24 rfl rfl
theorem dksX2_atom_3 : cX2_atom.data.toList.drop 71 = dktX2_atom_3 := dk_seg dksX2_atom_2 23 rfl rfl
theorem dksX2_atom_4 : cX2_atom.data.toList.drop 94 = dktX2_atom_4 := dk_seg dksX2_atom_3 23 rfl rfl
theorem dksX2_atom_5 : cX2_atom.data.toList.drop 117 = dktX2_atom_5 := dk_seg dksX2_atom_4 23 rfl rfl
theorem dX2_atom_0 : decode cX2_atom 0 = .ok (.aload_n 0, 1) := dk_42 (dk_at dksX2_atom_0 0 rfl rfl)
theorem dX2_atom_1 : decode cX2_atom 1 = .ok (.invokevirtual 98, 3) := dk_182 0 98 (dk_at dksX2_atom_0 1 rfl rfl)
theorem dX2_atom_4 : decode cX2_atom 4 = .ok (.istore_n 1, 1) := dk_60 (dk_at dksX2_atom_0 4 rfl rfl)
theorem dX2_atom_5 : decode cX2_atom 5 = .ok (.aload_n 0, 1) := dk_42 (dk_at dksX2_atom_0 5 rfl rfl)
theorem dX2_atom_6 : decode cX2_atom 6 = .ok (.getfield 92, 3) := dk_180 0 92 (dk_at dksX2_atom_0 6 rfl rfl)
theorem dX2_atom_9 : decode cX2_atom 9 = .ok (.istore_n 2, 1) := dk_61 (dk_at dksX2_atom_0 9 rfl rfl)
theorem dX2_atom_10 : decode cX2_atom 10 = .ok (.aload_n 0, 1) := dk_42 (dk_at dksX2_atom_0 10 rfl rfl)
theorem dX2_atom_11 : decode cX2_atom 11 = .ok (.ldc 252, 2) := dk_18 252 (dk_at dksX2_atom_0 11 rfl rfl)
theorem dX2_atom_13 : decode cX2_atom 13 = .ok (.invokevirtual 109, 3) := dk_182 0 109 (dk_at dksX2_atom_0 13 rfl rfl)
theorem dX2_atom_16 : decode cX2_atom 16 = .ok (.istore_n 3, 1) := dk_62 (dk_at dksX2_atom_0 16 rfl rfl)
theorem dX2_atom_17 : decode cX2_atom 17 = .ok (.iload_n 3, 1) := dk_29 (dk_at dksX2_atom_0 17 rfl rfl)
theorem dX2_atom_18 : decode cX2_atom 18 = .ok (.ifCond .ne 14, 3) := dk_154 0 14 (dk_at dksX2_atom_0 18 rfl rfl)
theorem dX2_atom_21 : decode cX2_atom 21 = .ok (.iload_n 1, 1) := dk_27 (dk_at dksX2_atom_0 21 rfl rfl)
theorem dX2_atom_22 : decode cX2_atom 22 = .ok (.bipush 40, 2) := dk_16 40 (dk_at dksX2_atom_0 22 rfl rfl)
theorem dX2_atom_24 : decode cX2_atom 24 = .ok (.if_icmp .eq 8, 3) := dk_159 0 8 (dk_at dksX2_atom_1 0 rfl rfl)
theorem dX2_atom_27 : decode cX2_atom 27 = .ok (.aload_n 0, 1) := dk_42 (dk_at dksX2_atom_1 3 rfl rfl)
theorem dX2_atom_28 : decode cX2_atom 28 = .ok (.invokevirtual 254, 3) := dk_182 0 254 (dk_at dksX2_atom_1 4 rfl rfl)
theorem dX2_atom_31 : decode cX2_atom 31 = .ok (.areturn, 1) := dk_176 (dk_at dksX2_atom_1 7 rfl rfl)
theorem dX2_atom_32 : decode cX2_atom 32 = .ok (.aload_n 0, 1) := dk_42 (dk_at dksX2_atom_1 8 rfl rfl)
theorem dX2_atom_33 : decode cX2_atom 33 = .ok (.getfield 128, 3) := dk_180 0 128 (dk_at dksX2_atom_1 9 rfl rfl)
theorem dX2_atom_36 : decode cX2_atom 36 = .ok (.bipush 6, 2) := dk_16 6 (dk_at dksX2_atom_1 12 rfl rfl)
theorem dX2_atom_38 : decode cX2_atom 38 = .ok (.if_icmp .ne 8, 3) := dk_160 0 8 (dk_at dksX2_atom_1 14 rfl rfl)
theorem dX2_atom_41 : decode cX2_atom 41 = .ok (.aload_n 0, 1) := dk_42 (dk_at dksX2_atom_1 17 rfl rfl)
theorem dX2_atom_42 : decode cX2_atom 42 = .ok (.iload_n 2, 1) := dk_28 (dk_at dksX2_atom_1 18 rfl rfl)
theorem dX2_atom_43 : decode cX2_atom 43 = .ok (.invokevirtual 113, 3) := dk_182 0 113 (dk_at dksX2_atom_1 19 rfl rfl)
theorem dX2_atom_46 : decode cX2_atom 46 = .ok (.aload_n 0, 1) := dk_42 (dk_at dksX2_atom_1 22 rfl rfl)
theorem dX2_atom_47 : decode cX2_atom 47 = .ok (.dup, 1) := dk_89 (dk_at dksX2_atom_1 23 rfl rfl)
theorem dX2_atom_48 : decode cX2_atom 48 = .ok (.getfield 128, 3) := dk_180 0 128 (dk_at dksX2_atom_2 0 rfl rfl)
theorem dX2_atom_51 : decode cX2_atom 51 = .ok (.iconst 1, 1) := dk_4 (dk_at dksX2_atom_2 3 rfl rfl)
theorem dX2_atom_52 : decode cX2_atom 52 = .ok (.iadd, 1) := dk_96 (dk_at dksX2_atom_2 4 rfl rfl)
theorem dX2_atom_53 : decode cX2_atom 53 = .ok (.putfield 128, 3) := dk_181 0 128 (dk_at dksX2_atom_2 5 rfl rfl)
theorem dX2_atom_56 : decode cX2_atom 56 = .ok (.iload_n 3, 1) := dk_29 (dk_at dksX2_atom_2 8 rfl rfl)
theorem dX2_atom_57 : decode cX2_atom 57 = .ok (.ifCond .eq 19, 3) := dk_153 0 19 (dk_at dksX2_atom_2 9 rfl rfl)
theorem dX2_atom_60 : decode cX2_atom 60 = .ok (.new 257, 3) := dk_187 1 1 (dk_at dksX2_atom_2 12 rfl rfl)
theorem dX2_atom_63 : decode cX2_atom 63 = .ok (.dup, 1) := dk_89 (dk_at dksX2_atom_2 15 rfl rfl)
theorem dX2_atom_64 : decode cX2_atom 64 = .ok (.aload_n 0, 1) := dk_42 (dk_at dksX2_atom_2 16 rfl rfl)
theorem dX2_atom_65 : decode cX2_atom 65 = .ok (.invokevirtual 237, 3) := dk_182 0 237 (dk_at dksX2_atom_2 17 rfl rfl)
theorem dX2_atom_68 : decode cX2_atom 68 = .ok (.invokespecial 259, 3) := dk_183 1 3 (dk_at dksX2_atom_2 20 rfl rfl)
theorem dX2_atom_71 : decode cX2_atom 71 = .ok (.astore 4, 2) := dk_58 4 (dk_at dksX2_atom_3 0 rfl rfl)
theorem dX2_atom_73 : decode cX2_atom 73 = .ok (.goto 47, 3) := dk_167 0 47 (dk_at dksX2_atom_3 2 rfl rfl)
theorem dX2_atom_76 : decode cX2_atom 76 = .ok (.aload_n 0, 1) := dk_42 (dk_at dksX2_atom_3 5 rfl rfl)
theorem dX2_atom_77 : decode cX2_atom 77 = .ok (.dup, 1) := dk_89 (dk_at dksX2_atom_3 6 rfl rfl)
theorem dX2_atom_78 : decode cX2_atom 78 = .ok (.getfield 92, 3) := dk_180 0 92 (dk_at dksX2_atom_3 7 rfl rfl)
theorem dX2_atom_81 : decode cX2_atom 81 = .ok (.iconst 1, 1) := dk_4 (dk_at dksX2_atom_3 10 rfl rfl)
theorem dX2_atom_82 : decode cX2_atom 82 = .ok (.iadd, 1) := dk_96 (dk_at dksX2_atom_3 11 rfl rfl)
theorem dX2_atom_83 : decode cX2_atom 83 = .ok (.putfield 92, 3) := dk_181 0 92 (dk_at dksX2_atom_3 12 rfl rfl)
theorem dX2_atom_86 : decode cX2_atom 86 = .ok (.aload_n 0, 1) := dk_42 (dk_at dksX2_atom_3 15 rfl rfl)
theorem dX2_atom_87 : decode cX2_atom 87 = .ok (.iconst 0, 1) := dk_3 (dk_at dksX2_atom_3 16 rfl rfl)
theorem dX2_atom_88 : decode cX2_atom 88 = .ok (.invokevirtual 221, 3) := dk_182 0 221 (dk_at dksX2_atom_3 17 rfl rfl)
theorem dX2_atom_91 : decode cX2_atom 91 = .ok (.astore 4, 2) := dk_58 4 (dk_at dksX2_atom_3 20 rfl rfl)
theorem dX2_atom_93 : decode cX2_atom 93 = .ok (.aload_n 0, 1) := dk_42 (dk_at dksX2_atom_3 22 rfl rfl)
theorem dX2_atom_94 : decode cX2_atom 94 = .ok (.invokevirtual 98, 3) := dk_182 0 98 (dk_at dksX2_atom_4 0 rfl rfl)
theorem dX2_atom_97 : decode cX2_atom 97 = .ok (.bipush 41, 2) := dk_16 41 (dk_at dksX2_atom_4 3 rfl rfl)
theorem dX2_atom_99 : decode cX2_atom 99 = .ok (.if_icmp .eq 11, 3) := dk_159 0 11 (dk_at dksX2_atom_4 5 rfl rfl)
theorem dX2_atom_102 : decode cX2_atom 102 = .ok (.aload_n 0, 1) := dk_42 (dk_at dksX2_atom_4 8 rfl rfl)
theorem dX2_atom_103 : decode cX2_atom 103 = .ok (.aload_n 0, 1) := dk_42 (dk_at dksX2_atom_4 9 rfl rfl)
theorem dX2_atom_104 : decode cX2_atom 104 = .ok (.getfield 92, 3) := dk_180 0 92 (dk_at dksX2_atom_4 10 rfl rfl)
theorem dX2_atom_107 : decode cX2_atom 107 = .ok (.invokevirtual 113, 3) := dk_182 0 113 (dk_at dksX2_atom_4 13 rfl rfl)
theorem dX2_atom_110 : decode cX2_atom 110 = .ok (.aload_n 0, 1) := dk_42 (dk_at dksX2_atom_4 16 rfl rfl)
theorem dX2_atom_111 : decode cX2_atom 111 = .ok (.dup, 1) := dk_89 (dk_at dksX2_atom_4 17 rfl rfl)
theorem dX2_atom_112 : decode cX2_atom 112 = .ok (.getfield 92, 3) := dk_180 0 92 (dk_at dksX2_atom_4 18 rfl rfl)
theorem dX2_atom_115 : decode cX2_atom 115 = .ok (.iconst 1, 1) := dk_4 (dk_at dksX2_atom_4 21 rfl rfl)
theorem dX2_atom_116 : decode cX2_atom 116 = .ok (.iadd, 1) := dk_96 (dk_at dksX2_atom_4 22 rfl rfl)
theorem dX2_atom_117 : decode cX2_atom 117 = .ok (.putfield 92, 3) := dk_181 0 92 (dk_at dksX2_atom_5 0 rfl rfl)
theorem dX2_atom_120 : decode cX2_atom 120 = .ok (.aload_n 0, 1) := dk_42 (dk_at dksX2_atom_5 3 rfl rfl)
theorem dX2_atom_121 : decode cX2_atom 121 = .ok (.dup, 1) := dk_89 (dk_at dksX2_atom_5 4 rfl rfl)
theorem dX2_atom_122 : decode cX2_atom 122 = .ok (.getfield 128, 3) := dk_180 0 128 (dk_at dksX2_atom_5 5 rfl rfl)
theorem dX2_atom_125 : decode cX2_atom 125 = .ok (.iconst 1, 1) := dk_4 (dk_at dksX2_atom_5 8 rfl rfl)
theorem dX2_atom_126 : decode cX2_atom 126 = .ok (.isub, 1) := dk_100 (dk_at dksX2_atom_5 9 rfl rfl)
theorem dX2_atom_127 : decode cX2_atom 127 = .ok (.putfield 128, 3) := dk_181 0 128 (dk_at dksX2_atom_5 10 rfl rfl)
theorem dX2_atom_130 : decode cX2_atom 130 = .ok (.aload 4, 2) := dk_25 4 (dk_at dksX2_atom_5 13 rfl rfl)
theorem dX2_atom_132 : decode cX2_atom 132 = .ok (.areturn, 1) := dk_176 (dk_at dksX2_atom_5 15 rfl rfl)
abbrev cX2_tag : ByteArray := prog_12_method_21_code
def yX2_tag : MethodName := ⟨RX2, "tag", "()LGuestView$Cond;"⟩
def dkwX2_tag_4 : List UInt8 := [89, 43, 45, 183, 1, 16, 167, 0, 12, 187, 1, 14, 89, 45, 43, 183, 1, 16, 176]
abbrev dktX2_tag_4 : List UInt8 := dkwX2_tag_4 ++ []
def dkwX2_tag_3 : List UInt8 := [42, 89, 180, 0, 92, 4, 96, 181, 0, 92, 42, 182, 1, 10, 78, 28, 16, 60, 160, 0, 15, 187, 1, 14]
abbrev dktX2_tag_3 : List UInt8 := dkwX2_tag_3 ++ dktX2_tag_4
def dkwX2_tag_2 : List UInt8 := [182, 0, 98, 61, 28, 16, 60, 159, 0, 17, 28, 16, 62, 159, 0, 11, 42, 42, 180, 0, 92, 182, 0, 113]
abbrev dktX2_tag_2 : List UInt8 := dkwX2_tag_2 ++ dktX2_tag_3
def dkwX2_tag_1 : List UInt8 := [187, 1, 6, 89, 16, 7, 27, 96, 183, 1, 8, 176, 132, 1, 1, 167, 255, 219, 42, 182, 1, 10, 76, 42]
abbrev dktX2_tag_1 : List UInt8 := dkwX2_tag_1 ++ dktX2_tag_2
def dkwX2_tag_0 : List UInt8 := [3, 60, 27, 42, 180, 0, 41, 190, 162, 0, 34, 42, 42, 180, 0, 41, 27, 50, 182, 0, 109, 153, 0, 15]
abbrev dktX2_tag_0 : List UInt8 := dkwX2_tag_0 ++ dktX2_tag_1
theorem dksX2_tag_0 : cX2_tag.data.toList.drop 0 = dktX2_tag_0 := by decide +kernel
theorem dksX2_tag_1 : cX2_tag.data.toList.drop 24 = dktX2_tag_1 := dk_seg dksX2_tag_0 24 rfl rfl
theorem dksX2_tag_2 : cX2_tag.data.toList.drop 48 = dktX2_tag_2 := dk_seg dksX2_tag_1 24 rfl rfl
theorem dksX2_tag_3 : cX2_tag.data.toList.drop 72 = dktX2_tag_3 := dk_seg dksX2_tag_2 24 rfl rfl
theorem dksX2_tag_4 : cX2_tag.data.toList.drop 96 = dktX2_tag_4 := dk_seg dksX2_tag_3 24 rfl rfl
theorem dX2_tag_0 : decode cX2_tag 0 = .ok (.iconst 0, 1) := dk_3 (dk_at dksX2_tag_0 0 rfl rfl)
theorem dX2_tag_1 : decode cX2_tag 1 = .ok (.istore_n 1, 1) := dk_60 (dk_at dksX2_tag_0 1 rfl rfl)
theorem dX2_tag_2 : decode cX2_tag 2 = .ok (.iload_n 1, 1) := dk_27 (dk_at dksX2_tag_0 2 rfl rfl)
theorem dX2_tag_3 : decode cX2_tag 3 = .ok (.aload_n 0, 1) := dk_42 (dk_at dksX2_tag_0 3 rfl rfl)
theorem dX2_tag_4 : decode cX2_tag 4 = .ok (.getfield 41, 3) := dk_180 0 41 (dk_at dksX2_tag_0 4 rfl rfl)
theorem dX2_tag_7 : decode cX2_tag 7 = .ok (.arraylength, 1) := dk_190 (dk_at dksX2_tag_0 7 rfl rfl)
theorem dX2_tag_8 : decode cX2_tag 8 = .ok (.if_icmp .ge 34, 3) := dk_162 0 34 (dk_at dksX2_tag_0 8 rfl rfl)
theorem dX2_tag_11 : decode cX2_tag 11 = .ok (.aload_n 0, 1) := dk_42 (dk_at dksX2_tag_0 11 rfl rfl)
theorem dX2_tag_12 : decode cX2_tag 12 = .ok (.aload_n 0, 1) := dk_42 (dk_at dksX2_tag_0 12 rfl rfl)
theorem dX2_tag_13 : decode cX2_tag 13 = .ok (.getfield 41, 3) := dk_180 0 41 (dk_at dksX2_tag_0 13 rfl rfl)
theorem dX2_tag_16 : decode cX2_tag 16 = .ok (.iload_n 1, 1) := dk_27 (dk_at dksX2_tag_0 16 rfl rfl)
theorem dX2_tag_17 : decode cX2_tag 17 = .ok (.aaload, 1) := dk_50 (dk_at dksX2_tag_0 17 rfl rfl)
theorem dX2_tag_18 : decode cX2_tag 18 = .ok (.invokevirtual 109, 3) := dk_182 0 109 (dk_at dksX2_tag_0 18 rfl rfl)
theorem dX2_tag_21 : decode cX2_tag 21 = .ok (.ifCond .eq 15, 3) := dk_153 0 15 (dk_at dksX2_tag_0 21 rfl rfl)
theorem dX2_tag_24 : decode cX2_tag 24 = .ok (.new 262, 3) := dk_187 1 6 (dk_at dksX2_tag_1 0 rfl rfl)
theorem dX2_tag_27 : decode cX2_tag 27 = .ok (.dup, 1) := dk_89 (dk_at dksX2_tag_1 3 rfl rfl)
theorem dX2_tag_28 : decode cX2_tag 28 = .ok (.bipush 7, 2) := dk_16 7 (dk_at dksX2_tag_1 4 rfl rfl)
theorem dX2_tag_30 : decode cX2_tag 30 = .ok (.iload_n 1, 1) := dk_27 (dk_at dksX2_tag_1 6 rfl rfl)
theorem dX2_tag_31 : decode cX2_tag 31 = .ok (.iadd, 1) := dk_96 (dk_at dksX2_tag_1 7 rfl rfl)
theorem dX2_tag_32 : decode cX2_tag 32 = .ok (.invokespecial 264, 3) := dk_183 1 8 (dk_at dksX2_tag_1 8 rfl rfl)
theorem dX2_tag_35 : decode cX2_tag 35 = .ok (.areturn, 1) := dk_176 (dk_at dksX2_tag_1 11 rfl rfl)
theorem dX2_tag_36 : decode cX2_tag 36 = .ok (.iinc 1 1, 3) := dk_132 1 1 (dk_at dksX2_tag_1 12 rfl rfl)
theorem dX2_tag_39 : decode cX2_tag 39 = .ok (.goto (-37), 3) := dk_167 255 219 (dk_at dksX2_tag_1 15 rfl rfl)
theorem dX2_tag_42 : decode cX2_tag 42 = .ok (.aload_n 0, 1) := dk_42 (dk_at dksX2_tag_1 18 rfl rfl)
theorem dX2_tag_43 : decode cX2_tag 43 = .ok (.invokevirtual 266, 3) := dk_182 1 10 (dk_at dksX2_tag_1 19 rfl rfl)
theorem dX2_tag_46 : decode cX2_tag 46 = .ok (.astore_n 1, 1) := dk_76 (dk_at dksX2_tag_1 22 rfl rfl)
theorem dX2_tag_47 : decode cX2_tag 47 = .ok (.aload_n 0, 1) := dk_42 (dk_at dksX2_tag_1 23 rfl rfl)
theorem dX2_tag_48 : decode cX2_tag 48 = .ok (.invokevirtual 98, 3) := dk_182 0 98 (dk_at dksX2_tag_2 0 rfl rfl)
theorem dX2_tag_51 : decode cX2_tag 51 = .ok (.istore_n 2, 1) := dk_61 (dk_at dksX2_tag_2 3 rfl rfl)
theorem dX2_tag_52 : decode cX2_tag 52 = .ok (.iload_n 2, 1) := dk_28 (dk_at dksX2_tag_2 4 rfl rfl)
theorem dX2_tag_53 : decode cX2_tag 53 = .ok (.bipush 60, 2) := dk_16 60 (dk_at dksX2_tag_2 5 rfl rfl)
theorem dX2_tag_55 : decode cX2_tag 55 = .ok (.if_icmp .eq 17, 3) := dk_159 0 17 (dk_at dksX2_tag_2 7 rfl rfl)
theorem dX2_tag_58 : decode cX2_tag 58 = .ok (.iload_n 2, 1) := dk_28 (dk_at dksX2_tag_2 10 rfl rfl)
theorem dX2_tag_59 : decode cX2_tag 59 = .ok (.bipush 62, 2) := dk_16 62 (dk_at dksX2_tag_2 11 rfl rfl)
theorem dX2_tag_61 : decode cX2_tag 61 = .ok (.if_icmp .eq 11, 3) := dk_159 0 11 (dk_at dksX2_tag_2 13 rfl rfl)
theorem dX2_tag_64 : decode cX2_tag 64 = .ok (.aload_n 0, 1) := dk_42 (dk_at dksX2_tag_2 16 rfl rfl)
theorem dX2_tag_65 : decode cX2_tag 65 = .ok (.aload_n 0, 1) := dk_42 (dk_at dksX2_tag_2 17 rfl rfl)
theorem dX2_tag_66 : decode cX2_tag 66 = .ok (.getfield 92, 3) := dk_180 0 92 (dk_at dksX2_tag_2 18 rfl rfl)
theorem dX2_tag_69 : decode cX2_tag 69 = .ok (.invokevirtual 113, 3) := dk_182 0 113 (dk_at dksX2_tag_2 21 rfl rfl)
theorem dX2_tag_72 : decode cX2_tag 72 = .ok (.aload_n 0, 1) := dk_42 (dk_at dksX2_tag_3 0 rfl rfl)
theorem dX2_tag_73 : decode cX2_tag 73 = .ok (.dup, 1) := dk_89 (dk_at dksX2_tag_3 1 rfl rfl)
theorem dX2_tag_74 : decode cX2_tag 74 = .ok (.getfield 92, 3) := dk_180 0 92 (dk_at dksX2_tag_3 2 rfl rfl)
theorem dX2_tag_77 : decode cX2_tag 77 = .ok (.iconst 1, 1) := dk_4 (dk_at dksX2_tag_3 5 rfl rfl)
theorem dX2_tag_78 : decode cX2_tag 78 = .ok (.iadd, 1) := dk_96 (dk_at dksX2_tag_3 6 rfl rfl)
theorem dX2_tag_79 : decode cX2_tag 79 = .ok (.putfield 92, 3) := dk_181 0 92 (dk_at dksX2_tag_3 7 rfl rfl)
theorem dX2_tag_82 : decode cX2_tag 82 = .ok (.aload_n 0, 1) := dk_42 (dk_at dksX2_tag_3 10 rfl rfl)
theorem dX2_tag_83 : decode cX2_tag 83 = .ok (.invokevirtual 266, 3) := dk_182 1 10 (dk_at dksX2_tag_3 11 rfl rfl)
theorem dX2_tag_86 : decode cX2_tag 86 = .ok (.astore_n 3, 1) := dk_78 (dk_at dksX2_tag_3 14 rfl rfl)
theorem dX2_tag_87 : decode cX2_tag 87 = .ok (.iload_n 2, 1) := dk_28 (dk_at dksX2_tag_3 15 rfl rfl)
theorem dX2_tag_88 : decode cX2_tag 88 = .ok (.bipush 60, 2) := dk_16 60 (dk_at dksX2_tag_3 16 rfl rfl)
theorem dX2_tag_90 : decode cX2_tag 90 = .ok (.if_icmp .ne 15, 3) := dk_160 0 15 (dk_at dksX2_tag_3 18 rfl rfl)
theorem dX2_tag_93 : decode cX2_tag 93 = .ok (.new 270, 3) := dk_187 1 14 (dk_at dksX2_tag_3 21 rfl rfl)
theorem dX2_tag_96 : decode cX2_tag 96 = .ok (.dup, 1) := dk_89 (dk_at dksX2_tag_4 0 rfl rfl)
theorem dX2_tag_97 : decode cX2_tag 97 = .ok (.aload_n 1, 1) := dk_43 (dk_at dksX2_tag_4 1 rfl rfl)
theorem dX2_tag_98 : decode cX2_tag 98 = .ok (.aload_n 3, 1) := dk_45 (dk_at dksX2_tag_4 2 rfl rfl)
theorem dX2_tag_99 : decode cX2_tag 99 = .ok (.invokespecial 272, 3) := dk_183 1 16 (dk_at dksX2_tag_4 3 rfl rfl)
theorem dX2_tag_102 : decode cX2_tag 102 = .ok (.goto 12, 3) := dk_167 0 12 (dk_at dksX2_tag_4 6 rfl rfl)
theorem dX2_tag_105 : decode cX2_tag 105 = .ok (.new 270, 3) := dk_187 1 14 (dk_at dksX2_tag_4 9 rfl rfl)
theorem dX2_tag_108 : decode cX2_tag 108 = .ok (.dup, 1) := dk_89 (dk_at dksX2_tag_4 12 rfl rfl)
theorem dX2_tag_109 : decode cX2_tag 109 = .ok (.aload_n 3, 1) := dk_45 (dk_at dksX2_tag_4 13 rfl rfl)
theorem dX2_tag_110 : decode cX2_tag 110 = .ok (.aload_n 1, 1) := dk_43 (dk_at dksX2_tag_4 14 rfl rfl)
theorem dX2_tag_111 : decode cX2_tag 111 = .ok (.invokespecial 272, 3) := dk_183 1 16 (dk_at dksX2_tag_4 15 rfl rfl)
theorem dX2_tag_114 : decode cX2_tag 114 = .ok (.areturn, 1) := dk_176 (dk_at dksX2_tag_4 18 rfl rfl)
abbrev cX2_sum : ByteArray := prog_12_method_22_code
def yX2_sum : MethodName := ⟨RX2, "sum", "()LGuestView$Sum;"⟩
def dkwX2_sum_1 : List UInt8 := [180, 0, 92, 4, 96, 181, 0, 92, 42, 43, 182, 1, 22, 167, 255, 232, 43, 176]
abbrev dktX2_sum_1 : List UInt8 := dkwX2_sum_1 ++ []
def dkwX2_sum_0 : List UInt8 := [187, 1, 19, 89, 183, 1, 21, 76, 42, 43, 182, 1, 22, 42, 182, 0, 98, 16, 43, 160, 0, 21, 42, 89]
abbrev dktX2_sum_0 : List UInt8 := dkwX2_sum_0 ++ dktX2_sum_1
theorem dksX2_sum_0 : cX2_sum.data.toList.drop 0 = dktX2_sum_0 := by decide +kernel
theorem dksX2_sum_1 : cX2_sum.data.toList.drop 24 = dktX2_sum_1 := dk_seg dksX2_sum_0 24 rfl rfl
theorem dX2_sum_0 : decode cX2_sum 0 = .ok (.new 275, 3) := dk_187 1 19 (dk_at dksX2_sum_0 0 rfl rfl)
theorem dX2_sum_3 : decode cX2_sum 3 = .ok (.dup, 1) := dk_89 (dk_at dksX2_sum_0 3 rfl rfl)
theorem dX2_sum_4 : decode cX2_sum 4 = .ok (.invokespecial 277, 3) := dk_183 1 21 (dk_at dksX2_sum_0 4 rfl rfl)
theorem dX2_sum_7 : decode cX2_sum 7 = .ok (.astore_n 1, 1) := dk_76 (dk_at dksX2_sum_0 7 rfl rfl)
theorem dX2_sum_8 : decode cX2_sum 8 = .ok (.aload_n 0, 1) := dk_42 (dk_at dksX2_sum_0 8 rfl rfl)
theorem dX2_sum_9 : decode cX2_sum 9 = .ok (.aload_n 1, 1) := dk_43 (dk_at dksX2_sum_0 9 rfl rfl)
theorem dX2_sum_10 : decode cX2_sum 10 = .ok (.invokevirtual 278, 3) := dk_182 1 22 (dk_at dksX2_sum_0 10 rfl rfl)
theorem dX2_sum_13 : decode cX2_sum 13 = .ok (.aload_n 0, 1) := dk_42 (dk_at dksX2_sum_0 13 rfl rfl)
theorem dX2_sum_14 : decode cX2_sum 14 = .ok (.invokevirtual 98, 3) := dk_182 0 98 (dk_at dksX2_sum_0 14 rfl rfl)
theorem dX2_sum_17 : decode cX2_sum 17 = .ok (.bipush 43, 2) := dk_16 43 (dk_at dksX2_sum_0 17 rfl rfl)
theorem dX2_sum_19 : decode cX2_sum 19 = .ok (.if_icmp .ne 21, 3) := dk_160 0 21 (dk_at dksX2_sum_0 19 rfl rfl)
theorem dX2_sum_22 : decode cX2_sum 22 = .ok (.aload_n 0, 1) := dk_42 (dk_at dksX2_sum_0 22 rfl rfl)
theorem dX2_sum_23 : decode cX2_sum 23 = .ok (.dup, 1) := dk_89 (dk_at dksX2_sum_0 23 rfl rfl)
theorem dX2_sum_24 : decode cX2_sum 24 = .ok (.getfield 92, 3) := dk_180 0 92 (dk_at dksX2_sum_1 0 rfl rfl)
theorem dX2_sum_27 : decode cX2_sum 27 = .ok (.iconst 1, 1) := dk_4 (dk_at dksX2_sum_1 3 rfl rfl)
theorem dX2_sum_28 : decode cX2_sum 28 = .ok (.iadd, 1) := dk_96 (dk_at dksX2_sum_1 4 rfl rfl)
theorem dX2_sum_29 : decode cX2_sum 29 = .ok (.putfield 92, 3) := dk_181 0 92 (dk_at dksX2_sum_1 5 rfl rfl)
theorem dX2_sum_32 : decode cX2_sum 32 = .ok (.aload_n 0, 1) := dk_42 (dk_at dksX2_sum_1 8 rfl rfl)
theorem dX2_sum_33 : decode cX2_sum 33 = .ok (.aload_n 1, 1) := dk_43 (dk_at dksX2_sum_1 9 rfl rfl)
theorem dX2_sum_34 : decode cX2_sum 34 = .ok (.invokevirtual 278, 3) := dk_182 1 22 (dk_at dksX2_sum_1 10 rfl rfl)
theorem dX2_sum_37 : decode cX2_sum 37 = .ok (.goto (-24), 3) := dk_167 255 232 (dk_at dksX2_sum_1 13 rfl rfl)
theorem dX2_sum_40 : decode cX2_sum 40 = .ok (.aload_n 1, 1) := dk_43 (dk_at dksX2_sum_1 16 rfl rfl)
theorem dX2_sum_41 : decode cX2_sum 41 = .ok (.areturn, 1) := dk_176 (dk_at dksX2_sum_1 17 rfl rfl)
abbrev cX2_part : ByteArray := prog_12_method_23_code
def yX2_part : MethodName := ⟨RX2, "part", "(LGuestView$Sum;)V"⟩
def dkwX2_part_3 : List UInt8 := [180, 0, 92, 182, 0, 113, 177]
abbrev dktX2_part_3 : List UInt8 := dkwX2_part_3 ++ []
def dkwX2_part_2 : List UInt8 := [167, 0, 14, 43, 180, 1, 28, 28, 92, 46, 4, 96, 79, 177, 132, 2, 1, 167, 255, 220, 42, 42]
abbrev dktX2_part_2 : List UInt8 := dkwX2_part_2 ++ dktX2_part_3
def dkwX2_part_1 : List UInt8 := [177, 3, 61, 28, 16, 7, 162, 0, 36, 42, 42, 180, 0, 31, 28, 50, 182, 0, 109, 154, 0, 6]
abbrev dktX2_part_1 : List UInt8 := dkwX2_part_1 ++ dktX2_part_2
def dkwX2_part_0 : List UInt8 := [42, 182, 0, 205, 153, 0, 21, 43, 89, 180, 1, 26, 42, 3, 17, 3, 231, 182, 0, 124, 96, 181, 1, 26]
abbrev dktX2_part_0 : List UInt8 := dkwX2_part_0 ++ dktX2_part_1
theorem dksX2_part_0 : cX2_part.data.toList.drop 0 = dktX2_part_0 := by decide +kernel
theorem dksX2_part_1 : cX2_part.data.toList.drop 24 = dktX2_part_1 := dk_seg dksX2_part_0 24 rfl rfl
theorem dksX2_part_2 : cX2_part.data.toList.drop 46 = dktX2_part_2 := dk_seg dksX2_part_1 22 rfl rfl
theorem dksX2_part_3 : cX2_part.data.toList.drop 68 = dktX2_part_3 := dk_seg dksX2_part_2 22 rfl rfl
theorem dX2_part_0 : decode cX2_part 0 = .ok (.aload_n 0, 1) := dk_42 (dk_at dksX2_part_0 0 rfl rfl)
theorem dX2_part_1 : decode cX2_part 1 = .ok (.invokevirtual 205, 3) := dk_182 0 205 (dk_at dksX2_part_0 1 rfl rfl)
theorem dX2_part_4 : decode cX2_part 4 = .ok (.ifCond .eq 21, 3) := dk_153 0 21 (dk_at dksX2_part_0 4 rfl rfl)
theorem dX2_part_7 : decode cX2_part 7 = .ok (.aload_n 1, 1) := dk_43 (dk_at dksX2_part_0 7 rfl rfl)
theorem dX2_part_8 : decode cX2_part 8 = .ok (.dup, 1) := dk_89 (dk_at dksX2_part_0 8 rfl rfl)
theorem dX2_part_9 : decode cX2_part 9 = .ok (.getfield 282, 3) := dk_180 1 26 (dk_at dksX2_part_0 9 rfl rfl)
theorem dX2_part_12 : decode cX2_part 12 = .ok (.aload_n 0, 1) := dk_42 (dk_at dksX2_part_0 12 rfl rfl)
theorem dX2_part_13 : decode cX2_part 13 = .ok (.iconst 0, 1) := dk_3 (dk_at dksX2_part_0 13 rfl rfl)
theorem dX2_part_14 : decode cX2_part 14 = .ok (.sipush 999, 3) := dk_17 3 231 (dk_at dksX2_part_0 14 rfl rfl)
theorem dX2_part_17 : decode cX2_part 17 = .ok (.invokevirtual 124, 3) := dk_182 0 124 (dk_at dksX2_part_0 17 rfl rfl)
theorem dX2_part_20 : decode cX2_part 20 = .ok (.iadd, 1) := dk_96 (dk_at dksX2_part_0 20 rfl rfl)
theorem dX2_part_21 : decode cX2_part 21 = .ok (.putfield 282, 3) := dk_181 1 26 (dk_at dksX2_part_0 21 rfl rfl)
theorem dX2_part_24 : decode cX2_part 24 = .ok (.return_, 1) := dk_177 (dk_at dksX2_part_1 0 rfl rfl)
theorem dX2_part_25 : decode cX2_part 25 = .ok (.iconst 0, 1) := dk_3 (dk_at dksX2_part_1 1 rfl rfl)
theorem dX2_part_26 : decode cX2_part 26 = .ok (.istore_n 2, 1) := dk_61 (dk_at dksX2_part_1 2 rfl rfl)
theorem dX2_part_27 : decode cX2_part 27 = .ok (.iload_n 2, 1) := dk_28 (dk_at dksX2_part_1 3 rfl rfl)
theorem dX2_part_28 : decode cX2_part 28 = .ok (.bipush 7, 2) := dk_16 7 (dk_at dksX2_part_1 4 rfl rfl)
theorem dX2_part_30 : decode cX2_part 30 = .ok (.if_icmp .ge 36, 3) := dk_162 0 36 (dk_at dksX2_part_1 6 rfl rfl)
theorem dX2_part_33 : decode cX2_part 33 = .ok (.aload_n 0, 1) := dk_42 (dk_at dksX2_part_1 9 rfl rfl)
theorem dX2_part_34 : decode cX2_part 34 = .ok (.aload_n 0, 1) := dk_42 (dk_at dksX2_part_1 10 rfl rfl)
theorem dX2_part_35 : decode cX2_part 35 = .ok (.getfield 31, 3) := dk_180 0 31 (dk_at dksX2_part_1 11 rfl rfl)
theorem dX2_part_38 : decode cX2_part 38 = .ok (.iload_n 2, 1) := dk_28 (dk_at dksX2_part_1 14 rfl rfl)
theorem dX2_part_39 : decode cX2_part 39 = .ok (.aaload, 1) := dk_50 (dk_at dksX2_part_1 15 rfl rfl)
theorem dX2_part_40 : decode cX2_part 40 = .ok (.invokevirtual 109, 3) := dk_182 0 109 (dk_at dksX2_part_1 16 rfl rfl)
theorem dX2_part_43 : decode cX2_part 43 = .ok (.ifCond .ne 6, 3) := dk_154 0 6 (dk_at dksX2_part_1 19 rfl rfl)
theorem dX2_part_46 : decode cX2_part 46 = .ok (.goto 14, 3) := dk_167 0 14 (dk_at dksX2_part_2 0 rfl rfl)
theorem dX2_part_49 : decode cX2_part 49 = .ok (.aload_n 1, 1) := dk_43 (dk_at dksX2_part_2 3 rfl rfl)
theorem dX2_part_50 : decode cX2_part 50 = .ok (.getfield 284, 3) := dk_180 1 28 (dk_at dksX2_part_2 4 rfl rfl)
theorem dX2_part_53 : decode cX2_part 53 = .ok (.iload_n 2, 1) := dk_28 (dk_at dksX2_part_2 7 rfl rfl)
theorem dX2_part_54 : decode cX2_part 54 = .ok (.dup2, 1) := dk_92 (dk_at dksX2_part_2 8 rfl rfl)
theorem dX2_part_55 : decode cX2_part 55 = .ok (.iaload, 1) := dk_46 (dk_at dksX2_part_2 9 rfl rfl)
theorem dX2_part_56 : decode cX2_part 56 = .ok (.iconst 1, 1) := dk_4 (dk_at dksX2_part_2 10 rfl rfl)
theorem dX2_part_57 : decode cX2_part 57 = .ok (.iadd, 1) := dk_96 (dk_at dksX2_part_2 11 rfl rfl)
theorem dX2_part_58 : decode cX2_part 58 = .ok (.iastore, 1) := dk_79 (dk_at dksX2_part_2 12 rfl rfl)
theorem dX2_part_59 : decode cX2_part 59 = .ok (.return_, 1) := dk_177 (dk_at dksX2_part_2 13 rfl rfl)
theorem dX2_part_60 : decode cX2_part 60 = .ok (.iinc 2 1, 3) := dk_132 2 1 (dk_at dksX2_part_2 14 rfl rfl)
theorem dX2_part_63 : decode cX2_part 63 = .ok (.goto (-36), 3) := dk_167 255 220 (dk_at dksX2_part_2 17 rfl rfl)
theorem dX2_part_66 : decode cX2_part 66 = .ok (.aload_n 0, 1) := dk_42 (dk_at dksX2_part_2 20 rfl rfl)
theorem dX2_part_67 : decode cX2_part 67 = .ok (.aload_n 0, 1) := dk_42 (dk_at dksX2_part_2 21 rfl rfl)
theorem dX2_part_68 : decode cX2_part 68 = .ok (.getfield 92, 3) := dk_180 0 92 (dk_at dksX2_part_3 0 rfl rfl)
theorem dX2_part_71 : decode cX2_part 71 = .ok (.invokevirtual 113, 3) := dk_182 0 113 (dk_at dksX2_part_3 3 rfl rfl)
theorem dX2_part_74 : decode cX2_part 74 = .ok (.return_, 1) := dk_177 (dk_at dksX2_part_3 6 rfl rfl)
theorem q153 : (Jvm.Cond.initialized "GuestView$Reader") ∈ lw_all := lw_g (lw_at lw_m1 2 rfl) rfl
theorem q196 : (Jvm.Cond.instantiable "GuestView$Reader" (11 : Nat)) ∈ lw_all := lw_g (lw_at lw_m1 45 rfl) rfl
theorem q198 : (Jvm.Cond.instanceMethod ({ cls := "GuestView$Reader", name := "<init>", desc := "()V" } : Jvm.MethodName)) ∈ lw_all := lw_g (lw_at lw_m1 47 rfl) rfl
theorem q199 : (Jvm.Cond.code ({ cls := "GuestView$Reader", name := "<init>", desc := "()V" } : Jvm.MethodName) prog_12_method_1_code (1 : Nat) (Option.none : Option Jvm.ClassFile.FieldType)) ∈ lw_all := lw_g (lw_at lw_m1 48 rfl) rfl
theorem q200 : (Jvm.Cond.methodLink "GuestView$Reader" (3 : Nat) ({ cls := "java/lang/Object", name := "<init>", desc := "()V" } : Jvm.MethodName)) ∈ lw_all := lw_g (lw_at lw_m1 49 rfl) rfl
theorem q201 : (Jvm.Cond.classLink "GuestView$Reader" (15 : Nat) "java/lang/String") ∈ lw_all := lw_g (lw_at lw_m1 50 rfl) rfl
theorem q203 : (Jvm.Cond.stringRef "GuestView$Reader" (17 : Nat) "op") ∈ lw_tbl := lw_at lw_m1 52 rfl
theorem q204 : (Jvm.Cond.stringRef "GuestView$Reader" (19 : Nat) "micros") ∈ lw_tbl := lw_at lw_m1 53 rfl
theorem q205 : (Jvm.Cond.stringRef "GuestView$Reader" (21 : Nat) "control") ∈ lw_tbl := lw_at lw_m1 54 rfl
theorem q206 : (Jvm.Cond.stringRef "GuestView$Reader" (23 : Nat) "modal") ∈ lw_tbl := lw_at lw_m1 55 rfl
theorem q207 : (Jvm.Cond.stringRef "GuestView$Reader" (25 : Nat) "local") ∈ lw_tbl := lw_at lw_m1 56 rfl
theorem q208 : (Jvm.Cond.stringRef "GuestView$Reader" (27 : Nat) "timed") ∈ lw_tbl := lw_at lw_m1 57 rfl
theorem q209 : (Jvm.Cond.stringRef "GuestView$Reader" (29 : Nat) "uses") ∈ lw_tbl := lw_at lw_m1 58 rfl
theorem q210 : (Jvm.Cond.stringRef "GuestView$Reader" (35 : Nat) "guarded") ∈ lw_tbl := lw_at lw_m1 59 rfl
theorem q211 : (Jvm.Cond.stringRef "GuestView$Reader" (37 : Nat) "patched") ∈ lw_tbl := lw_at lw_m1 60 rfl
theorem q212 : (Jvm.Cond.stringRef "GuestView$Reader" (39 : Nat) "sensitive") ∈ lw_tbl := lw_at lw_m1 61 rfl
theorem q213 : (Jvm.Cond.stringRef "GuestView$Reader" (44 : Nat) "add") ∈ lw_tbl := lw_at lw_m1 62 rfl
theorem q214 : (Jvm.Cond.stringRef "GuestView$Reader" (46 : Nat) "load") ∈ lw_tbl := lw_at lw_m1 63 rfl
theorem q215 : (Jvm.Cond.stringRef "GuestView$Reader" (48 : Nat) "save") ∈ lw_tbl := lw_at lw_m1 64 rfl
theorem q216 : (Jvm.Cond.stringRef "GuestView$Reader" (50 : Nat) "rise") ∈ lw_tbl := lw_at lw_m1 65 rfl
theorem q217 : (Jvm.Cond.stringRef "GuestView$Reader" (52 : Nat) "drop") ∈ lw_tbl := lw_at lw_m1 66 rfl
theorem q218 : (Jvm.Cond.stringRef "GuestView$Reader" (54 : Nat) "move") ∈ lw_tbl := lw_at lw_m1 67 rfl
theorem q219 : (Jvm.Cond.stringRef "GuestView$Reader" (56 : Nat) "where") ∈ lw_tbl := lw_at lw_m1 68 rfl
theorem q220 : (Jvm.Cond.stringRef "GuestView$Reader" (58 : Nat) "who") ∈ lw_tbl := lw_at lw_m1 69 rfl
theorem q221 : (Jvm.Cond.stringRef "GuestView$Reader" (60 : Nat) "time") ∈ lw_tbl := lw_at lw_m1 70 rfl
theorem q222 : (Jvm.Cond.stringRef "GuestView$Reader" (62 : Nat) "skip") ∈ lw_tbl := lw_at lw_m1 71 rfl
theorem q223 : (Jvm.Cond.stringRef "GuestView$Reader" (64 : Nat) "quiet") ∈ lw_tbl := lw_at lw_m1 72 rfl
theorem q224 : (Jvm.Cond.classLink "GuestView$Reader" (68 : Nat) "GuestView$Line") ∈ lw_all := lw_g (lw_at lw_m1 73 rfl) rfl
theorem q226 : (Jvm.Cond.classLink "GuestView$Reader" (74 : Nat) "GuestView$State") ∈ lw_all := lw_g (lw_at lw_m1 75 rfl) rfl
theorem q228 : (Jvm.Cond.methodLinkNest "GuestView$Reader" (76 : Nat) ({ cls := "GuestView$State", name := "<init>", desc := "()V" } : Jvm.MethodName) "GuestView") ∈ lw_tbl := lw_at lw_m1 77 rfl
theorem q317 : (Jvm.Cond.fieldLinkNest "GuestView$Reader" (193 : Nat) "GuestView$Op" "many" "I" "GuestView") ∈ lw_tbl := lw_at lw_m1 166 rfl
theorem q341 : (Jvm.Cond.fieldLinkNest "GuestView$Reader" (181 : Nat) "GuestView$State" "ops" "[LGuestView$Op;" "GuestView") ∈ lw_tbl := lw_at lw_m1 190 rfl
theorem q347 : (Jvm.Cond.fieldLinkNest "GuestView$Reader" (209 : Nat) "GuestView$State" "program" "[I" "GuestView") ∈ lw_tbl := lw_at lw_m1 196 rfl
theorem q351 : (Jvm.Cond.fieldLinkNest "GuestView$Reader" (212 : Nat) "GuestView$State" "first" "[I" "GuestView") ∈ lw_tbl := lw_at lw_m1 200 rfl
theorem q358 : (Jvm.Cond.fieldLinkNest "GuestView$Reader" (178 : Nat) "GuestView$State" "many" "I" "GuestView") ∈ lw_tbl := lw_at lw_m1 207 rfl
theorem q360 : (Jvm.Cond.fieldLinkNest "GuestView$Reader" (202 : Nat) "GuestView$State" "programMany" "I" "GuestView") ∈ lw_tbl := lw_at lw_m1 209 rfl
theorem q367 : (Jvm.Cond.fieldLinkNest "GuestView$Reader" (160 : Nat) "GuestView$State" "vector" "I" "GuestView") ∈ lw_tbl := lw_at lw_m1 216 rfl
theorem q370 : (Jvm.Cond.fieldLinkNest "GuestView$Reader" (164 : Nat) "GuestView$State" "shift" "I" "GuestView") ∈ lw_tbl := lw_at lw_m1 219 rfl
theorem q373 : (Jvm.Cond.fieldLinkNest "GuestView$Reader" (168 : Nat) "GuestView$State" "cost" "I" "GuestView") ∈ lw_tbl := lw_at lw_m1 222 rfl
theorem q376 : (Jvm.Cond.fieldLinkNest "GuestView$Reader" (172 : Nat) "GuestView$State" "alarm" "I" "GuestView") ∈ lw_tbl := lw_at lw_m1 225 rfl
theorem q381 : (Jvm.Cond.fieldLinkNest "GuestView$Reader" (176 : Nat) "GuestView$State" "purse" "I" "GuestView") ∈ lw_tbl := lw_at lw_m1 230 rfl
theorem q428 : (Jvm.Cond.classLink "GuestView$Reader" (81 : Nat) "GuestView$Wrong") ∈ lw_all := lw_g (lw_at lw_m2 37 rfl) rfl
theorem q472 : (Jvm.Cond.methodLink "GuestView$Reader" (83 : Nat) ({ cls := "GuestView$Wrong", name := "<init>", desc := "()V" } : Jvm.MethodName)) ∈ lw_all := lw_g (lw_at lw_m2 81 rfl) rfl
theorem q484 : (Jvm.Cond.fieldLinkNest "GuestView$Reader" (88 : Nat) "GuestView$Wrong" "place" "I" "GuestView") ∈ lw_tbl := lw_at lw_m2 93 rfl
theorem q501 : (Jvm.Cond.fieldLink "GuestView$Reader" (9 : Nat) "GuestView$Reader" "tape" "[B") ∈ lw_all := lw_g (lw_at lw_m2 110 rfl) rfl
theorem q503 : (Jvm.Cond.fieldLink "GuestView$Reader" (31 : Nat) "GuestView$Reader" "words" "[Ljava/lang/String;") ∈ lw_all := lw_g (lw_at lw_m2 112 rfl) rfl
theorem q504 : (Jvm.Cond.fieldLink "GuestView$Reader" (41 : Nat) "GuestView$Reader" "tags" "[Ljava/lang/String;") ∈ lw_all := lw_g (lw_at lw_m2 113 rfl) rfl
theorem q505 : (Jvm.Cond.fieldLink "GuestView$Reader" (66 : Nat) "GuestView$Reader" "micros" "[Ljava/lang/String;") ∈ lw_all := lw_g (lw_at lw_m2 114 rfl) rfl
theorem q506 : (Jvm.Cond.fieldLink "GuestView$Reader" (70 : Nat) "GuestView$Reader" "row" "[LGuestView$Line;") ∈ lw_all := lw_g (lw_at lw_m2 115 rfl) rfl
theorem q508 : (Jvm.Cond.fieldLink "GuestView$Reader" (77 : Nat) "GuestView$Reader" "draft" "LGuestView$State;") ∈ lw_all := lw_g (lw_at lw_m2 117 rfl) rfl
theorem q509 : (Jvm.Cond.fieldLink "GuestView$Reader" (84 : Nat) "GuestView$Reader" "wrong" "LGuestView$Wrong;") ∈ lw_all := lw_g (lw_at lw_m2 118 rfl) rfl
theorem q511 : (Jvm.Cond.fieldLink "GuestView$Reader" (95 : Nat) "GuestView$Reader" "end" "I") ∈ lw_all := lw_g (lw_at lw_m2 120 rfl) rfl
theorem q512 : (Jvm.Cond.fieldLink "GuestView$Reader" (92 : Nat) "GuestView$Reader" "at" "I") ∈ lw_all := lw_g (lw_at lw_m2 121 rfl) rfl
theorem q513 : (Jvm.Cond.fieldLink "GuestView$Reader" (128 : Nat) "GuestView$Reader" "deep" "I") ∈ lw_all := lw_g (lw_at lw_m2 122 rfl) rfl
theorem q514 : (Jvm.Cond.laysFinal "GuestView$Reader" "GuestView$Reader" "tape" "[B") ∈ lw_all := lw_g (lw_at lw_m2 123 rfl) rfl
theorem q515 : (Jvm.Cond.soleField "GuestView$Reader" "tape") ∈ lw_all := lw_g (lw_at lw_m2 124 rfl) rfl
theorem q516 : (Jvm.Cond.laysFinal "GuestView$Reader" "GuestView$Reader" "words" "[Ljava/lang/String;") ∈ lw_all := lw_g (lw_at lw_m2 125 rfl) rfl
theorem q517 : (Jvm.Cond.soleField "GuestView$Reader" "words") ∈ lw_all := lw_g (lw_at lw_m2 126 rfl) rfl
theorem q518 : (Jvm.Cond.laysFinal "GuestView$Reader" "GuestView$Reader" "tags" "[Ljava/lang/String;") ∈ lw_all := lw_g (lw_at lw_m2 127 rfl) rfl
theorem q519 : (Jvm.Cond.soleField "GuestView$Reader" "tags") ∈ lw_all := lw_g (lw_at lw_m2 128 rfl) rfl
theorem q520 : (Jvm.Cond.laysFinal "GuestView$Reader" "GuestView$Reader" "micros" "[Ljava/lang/String;") ∈ lw_all := lw_g (lw_at lw_m2 129 rfl) rfl
theorem q521 : (Jvm.Cond.soleField "GuestView$Reader" "micros") ∈ lw_all := lw_g (lw_at lw_m2 130 rfl) rfl
theorem q522 : (Jvm.Cond.laysFinal "GuestView$Reader" "GuestView$Reader" "row" "[LGuestView$Line;") ∈ lw_all := lw_g (lw_at lw_m2 131 rfl) rfl
theorem q523 : (Jvm.Cond.soleField "GuestView$Reader" "row") ∈ lw_all := lw_g (lw_at lw_m2 132 rfl) rfl
theorem q524 : (Jvm.Cond.laysFinal "GuestView$Reader" "GuestView$Reader" "draft" "LGuestView$State;") ∈ lw_all := lw_g (lw_at lw_m2 133 rfl) rfl
theorem q525 : (Jvm.Cond.soleField "GuestView$Reader" "draft") ∈ lw_all := lw_g (lw_at lw_m2 134 rfl) rfl
theorem q526 : (Jvm.Cond.laysFinal "GuestView$Reader" "GuestView$Reader" "wrong" "LGuestView$Wrong;") ∈ lw_all := lw_g (lw_at lw_m2 135 rfl) rfl
theorem q527 : (Jvm.Cond.soleField "GuestView$Reader" "wrong") ∈ lw_all := lw_g (lw_at lw_m2 136 rfl) rfl
theorem q528 : (Jvm.Cond.lays "GuestView$Reader" "GuestView$Reader" "size" "I") ∈ lw_all := lw_g (lw_at lw_m2 137 rfl) rfl
theorem q529 : (Jvm.Cond.soleField "GuestView$Reader" "size") ∈ lw_all := lw_g (lw_at lw_m2 138 rfl) rfl
theorem q530 : (Jvm.Cond.lays "GuestView$Reader" "GuestView$Reader" "end" "I") ∈ lw_all := lw_g (lw_at lw_m2 139 rfl) rfl
theorem q531 : (Jvm.Cond.soleField "GuestView$Reader" "end") ∈ lw_all := lw_g (lw_at lw_m2 140 rfl) rfl
theorem q532 : (Jvm.Cond.lays "GuestView$Reader" "GuestView$Reader" "at" "I") ∈ lw_all := lw_g (lw_at lw_m2 141 rfl) rfl
theorem q533 : (Jvm.Cond.soleField "GuestView$Reader" "at") ∈ lw_all := lw_g (lw_at lw_m2 142 rfl) rfl
theorem q534 : (Jvm.Cond.lays "GuestView$Reader" "GuestView$Reader" "deep" "I") ∈ lw_all := lw_g (lw_at lw_m2 143 rfl) rfl
theorem q535 : (Jvm.Cond.soleField "GuestView$Reader" "deep") ∈ lw_all := lw_g (lw_at lw_m2 144 rfl) rfl
theorem q536 : (Jvm.Cond.superclass "GuestView$Reader" "java/lang/Object") ∈ lw_all := lw_g (lw_at lw_m2 145 rfl) rfl
theorem q917 : (Jvm.Cond.instanceMethod ({ cls := "GuestView$Reader", name := "lines", desc := "(ILGuestView$State;)LGuestView$State;" } : Jvm.MethodName)) ∈ lw_all := lw_g (lw_at lw_m4 46 rfl) rfl
theorem q918 : (Jvm.Cond.selects "GuestView$Reader" ({ cls := "GuestView$Reader", name := "lines", desc := "(ILGuestView$State;)LGuestView$State;" } : Jvm.MethodName) ({ cls := "GuestView$Reader", name := "lines", desc := "(ILGuestView$State;)LGuestView$State;" } : Jvm.MethodName)) ∈ lw_all := lw_g (lw_at lw_m4 47 rfl) rfl
theorem q919 : (Jvm.Cond.code ({ cls := "GuestView$Reader", name := "lines", desc := "(ILGuestView$State;)LGuestView$State;" } : Jvm.MethodName) prog_12_method_12_code (4 : Nat) (Option.some (Jvm.ClassFile.FieldType.object "GuestView$State"))) ∈ lw_all := lw_g (lw_at lw_m4 48 rfl) rfl
theorem q920 : (Jvm.Cond.methodLink "GuestView$Reader" (131 : Nat) ({ cls := "GuestView$Reader", name := "begins", desc := "(I)V" } : Jvm.MethodName)) ∈ lw_all := lw_g (lw_at lw_m4 49 rfl) rfl
theorem q921 : (Jvm.Cond.privateMethod ({ cls := "GuestView$Reader", name := "begins", desc := "(I)V" } : Jvm.MethodName)) ∈ lw_tbl := lw_at lw_m4 50 rfl
theorem q922 : (Jvm.Cond.instanceMethod ({ cls := "GuestView$Reader", name := "begins", desc := "(I)V" } : Jvm.MethodName)) ∈ lw_all := lw_g (lw_at lw_m4 51 rfl) rfl
theorem q923 : (Jvm.Cond.code ({ cls := "GuestView$Reader", name := "begins", desc := "(I)V" } : Jvm.MethodName) prog_12_method_10_code (2 : Nat) (Option.none : Option Jvm.ClassFile.FieldType)) ∈ lw_all := lw_g (lw_at lw_m4 52 rfl) rfl
theorem q924 : (Jvm.Cond.methodLink "GuestView$Reader" (134 : Nat) ({ cls := "GuestView$State", name := "be", desc := "(LGuestView$State;)V" } : Jvm.MethodName)) ∈ lw_all := lw_g (lw_at lw_m4 53 rfl) rfl
theorem q925 : (Jvm.Cond.methodLink "GuestView$Reader" (138 : Nat) ({ cls := "GuestView$Reader", name := "more", desc := "(II)Z" } : Jvm.MethodName)) ∈ lw_all := lw_g (lw_at lw_m4 54 rfl) rfl
theorem q926 : (Jvm.Cond.privateMethod ({ cls := "GuestView$Reader", name := "more", desc := "(II)Z" } : Jvm.MethodName)) ∈ lw_tbl := lw_at lw_m4 55 rfl
theorem q927 : (Jvm.Cond.instanceMethod ({ cls := "GuestView$Reader", name := "more", desc := "(II)Z" } : Jvm.MethodName)) ∈ lw_all := lw_g (lw_at lw_m4 56 rfl) rfl
theorem q928 : (Jvm.Cond.code ({ cls := "GuestView$Reader", name := "more", desc := "(II)Z" } : Jvm.MethodName) prog_12_method_11_code (5 : Nat) (Option.some Jvm.ClassFile.FieldType.boolean)) ∈ lw_all := lw_g (lw_at lw_m4 57 rfl) rfl
theorem q929 : (Jvm.Cond.methodLink "GuestView$Reader" (98 : Nat) ({ cls := "GuestView$Reader", name := "sign", desc := "()I" } : Jvm.MethodName)) ∈ lw_all := lw_g (lw_at lw_m4 58 rfl) rfl
theorem q930 : (Jvm.Cond.privateMethod ({ cls := "GuestView$Reader", name := "sign", desc := "()I" } : Jvm.MethodName)) ∈ lw_tbl := lw_at lw_m4 59 rfl
theorem q931 : (Jvm.Cond.instanceMethod ({ cls := "GuestView$Reader", name := "sign", desc := "()I" } : Jvm.MethodName)) ∈ lw_all := lw_g (lw_at lw_m4 60 rfl) rfl
theorem q932 : (Jvm.Cond.code ({ cls := "GuestView$Reader", name := "sign", desc := "()I" } : Jvm.MethodName) prog_12_method_3_code (1 : Nat) (Option.some Jvm.ClassFile.FieldType.int)) ∈ lw_all := lw_g (lw_at lw_m4 61 rfl) rfl
theorem q933 : (Jvm.Cond.methodLink "GuestView$Reader" (113 : Nat) ({ cls := "GuestView$Reader", name := "fail", desc := "(I)V" } : Jvm.MethodName)) ∈ lw_all := lw_g (lw_at lw_m4 62 rfl) rfl
theorem q934 : (Jvm.Cond.privateMethod ({ cls := "GuestView$Reader", name := "fail", desc := "(I)V" } : Jvm.MethodName)) ∈ lw_tbl := lw_at lw_m4 63 rfl
theorem q935 : (Jvm.Cond.instanceMethod ({ cls := "GuestView$Reader", name := "fail", desc := "(I)V" } : Jvm.MethodName)) ∈ lw_all := lw_g (lw_at lw_m4 64 rfl) rfl
theorem q936 : (Jvm.Cond.code ({ cls := "GuestView$Reader", name := "fail", desc := "(I)V" } : Jvm.MethodName) prog_12_method_2_code (2 : Nat) (Option.none : Option Jvm.ClassFile.FieldType)) ∈ lw_all := lw_g (lw_at lw_m4 65 rfl) rfl
theorem q937 : (Jvm.Cond.methodLink "GuestView$Reader" (142 : Nat) ({ cls := "GuestView$Reader", name := "line", desc := "()V" } : Jvm.MethodName)) ∈ lw_all := lw_g (lw_at lw_m4 66 rfl) rfl
theorem q938 : (Jvm.Cond.privateMethod ({ cls := "GuestView$Reader", name := "line", desc := "()V" } : Jvm.MethodName)) ∈ lw_tbl := lw_at lw_m4 67 rfl
theorem q939 : (Jvm.Cond.instanceMethod ({ cls := "GuestView$Reader", name := "line", desc := "()V" } : Jvm.MethodName)) ∈ lw_all := lw_g (lw_at lw_m4 68 rfl) rfl
theorem q940 : (Jvm.Cond.code ({ cls := "GuestView$Reader", name := "line", desc := "()V" } : Jvm.MethodName) prog_12_method_13_code (2 : Nat) (Option.none : Option Jvm.ClassFile.FieldType)) ∈ lw_all := lw_g (lw_at lw_m4 69 rfl) rfl
theorem q941 : (Jvm.Cond.methodLink "GuestView$Reader" (109 : Nat) ({ cls := "GuestView$Reader", name := "takes", desc := "(Ljava/lang/String;)Z" } : Jvm.MethodName)) ∈ lw_all := lw_g (lw_at lw_m4 70 rfl) rfl
theorem q942 : (Jvm.Cond.privateMethod ({ cls := "GuestView$Reader", name := "takes", desc := "(Ljava/lang/String;)Z" } : Jvm.MethodName)) ∈ lw_tbl := lw_at lw_m4 71 rfl
theorem q943 : (Jvm.Cond.instanceMethod ({ cls := "GuestView$Reader", name := "takes", desc := "(Ljava/lang/String;)Z" } : Jvm.MethodName)) ∈ lw_all := lw_g (lw_at lw_m4 72 rfl) rfl
theorem q944 : (Jvm.Cond.code ({ cls := "GuestView$Reader", name := "takes", desc := "(Ljava/lang/String;)Z" } : Jvm.MethodName) prog_12_method_6_code (6 : Nat) (Option.some Jvm.ClassFile.FieldType.boolean)) ∈ lw_all := lw_g (lw_at lw_m4 73 rfl) rfl
theorem q945 : (Jvm.Cond.methodLink "GuestView$Reader" (102 : Nat) ({ cls := "java/lang/String", name := "length", desc := "()I" } : Jvm.MethodName)) ∈ lw_all := lw_g (lw_at lw_m4 74 rfl) rfl
theorem q955 : (Jvm.Cond.methodLink "GuestView$Reader" (105 : Nat) ({ cls := "java/lang/String", name := "charAt", desc := "(I)C" } : Jvm.MethodName)) ∈ lw_all := lw_g (lw_at lw_m4 84 rfl) rfl
theorem q993 : (Jvm.Cond.methodLink "GuestView$Reader" (145 : Nat) ({ cls := "GuestView$Reader", name := "addOp", desc := "(I)V" } : Jvm.MethodName)) ∈ lw_all := lw_g (lw_at lw_m4 122 rfl) rfl
theorem q994 : (Jvm.Cond.privateMethod ({ cls := "GuestView$Reader", name := "addOp", desc := "(I)V" } : Jvm.MethodName)) ∈ lw_tbl := lw_at lw_m4 123 rfl
theorem q995 : (Jvm.Cond.instanceMethod ({ cls := "GuestView$Reader", name := "addOp", desc := "(I)V" } : Jvm.MethodName)) ∈ lw_all := lw_g (lw_at lw_m4 124 rfl) rfl
theorem q996 : (Jvm.Cond.code ({ cls := "GuestView$Reader", name := "addOp", desc := "(I)V" } : Jvm.MethodName) prog_12_method_15_code (5 : Nat) (Option.none : Option Jvm.ClassFile.FieldType)) ∈ lw_all := lw_g (lw_at lw_m4 125 rfl) rfl
theorem q997 : (Jvm.Cond.methodLink "GuestView$Reader" (185 : Nat) ({ cls := "GuestView$Op", name := "begins", desc := "(Z)V" } : Jvm.MethodName)) ∈ lw_all := lw_g (lw_at lw_m4 126 rfl) rfl
theorem q1001 : (Jvm.Cond.methodLink "GuestView$Reader" (117 : Nat) ({ cls := "GuestView$Reader", name := "here", desc := "()I" } : Jvm.MethodName)) ∈ lw_all := lw_g (lw_at lw_m4 130 rfl) rfl
theorem q1002 : (Jvm.Cond.privateMethod ({ cls := "GuestView$Reader", name := "here", desc := "()I" } : Jvm.MethodName)) ∈ lw_tbl := lw_at lw_m4 131 rfl
theorem q1003 : (Jvm.Cond.instanceMethod ({ cls := "GuestView$Reader", name := "here", desc := "()I" } : Jvm.MethodName)) ∈ lw_all := lw_g (lw_at lw_m4 132 rfl) rfl
theorem q1004 : (Jvm.Cond.code ({ cls := "GuestView$Reader", name := "here", desc := "()I" } : Jvm.MethodName) prog_12_method_4_code (2 : Nat) (Option.some Jvm.ClassFile.FieldType.int)) ∈ lw_all := lw_g (lw_at lw_m4 133 rfl) rfl
theorem q1005 : (Jvm.Cond.methodLink "GuestView$Reader" (190 : Nat) ({ cls := "GuestView$Reader", name := "aKind", desc := "()I" } : Jvm.MethodName)) ∈ lw_all := lw_g (lw_at lw_m4 134 rfl) rfl
theorem q1006 : (Jvm.Cond.privateMethod ({ cls := "GuestView$Reader", name := "aKind", desc := "()I" } : Jvm.MethodName)) ∈ lw_tbl := lw_at lw_m4 135 rfl
theorem q1007 : (Jvm.Cond.instanceMethod ({ cls := "GuestView$Reader", name := "aKind", desc := "()I" } : Jvm.MethodName)) ∈ lw_all := lw_g (lw_at lw_m4 136 rfl) rfl
theorem q1008 : (Jvm.Cond.code ({ cls := "GuestView$Reader", name := "aKind", desc := "()I" } : Jvm.MethodName) prog_12_method_14_code (2 : Nat) (Option.some Jvm.ClassFile.FieldType.int)) ∈ lw_all := lw_g (lw_at lw_m4 137 rfl) rfl
theorem q1009 : (Jvm.Cond.methodLinkNest "GuestView$Reader" (194 : Nat) ({ cls := "GuestView", name := "isAny", desc := "(I[I)Z" } : Jvm.MethodName) "GuestView") ∈ lw_tbl := lw_at lw_m4 138 rfl
theorem q1012 : (Jvm.Cond.methodLink "GuestView$Reader" (124 : Nat) ({ cls := "GuestView$Reader", name := "number", desc := "(II)I" } : Jvm.MethodName)) ∈ lw_all := lw_g (lw_at lw_m4 141 rfl) rfl
theorem q1013 : (Jvm.Cond.privateMethod ({ cls := "GuestView$Reader", name := "number", desc := "(II)I" } : Jvm.MethodName)) ∈ lw_tbl := lw_at lw_m4 142 rfl
theorem q1014 : (Jvm.Cond.instanceMethod ({ cls := "GuestView$Reader", name := "number", desc := "(II)I" } : Jvm.MethodName)) ∈ lw_all := lw_g (lw_at lw_m4 143 rfl) rfl
theorem q1015 : (Jvm.Cond.code ({ cls := "GuestView$Reader", name := "number", desc := "(II)I" } : Jvm.MethodName) prog_12_method_8_code (5 : Nat) (Option.some Jvm.ClassFile.FieldType.int)) ∈ lw_all := lw_g (lw_at lw_m4 144 rfl) rfl
theorem q1016 : (Jvm.Cond.methodLink "GuestView$Reader" (198 : Nat) ({ cls := "GuestView$Op", name := "adds", desc := "(II)V" } : Jvm.MethodName)) ∈ lw_all := lw_g (lw_at lw_m4 145 rfl) rfl
theorem q1020 : (Jvm.Cond.stringRef "GuestView$Reader" (148 : Nat) "program") ∈ lw_tbl := lw_at lw_m4 149 rfl
theorem q1021 : (Jvm.Cond.methodLink "GuestView$Reader" (150 : Nat) ({ cls := "GuestView$Reader", name := "programs", desc := "()V" } : Jvm.MethodName)) ∈ lw_all := lw_g (lw_at lw_m4 150 rfl) rfl
theorem q1022 : (Jvm.Cond.privateMethod ({ cls := "GuestView$Reader", name := "programs", desc := "()V" } : Jvm.MethodName)) ∈ lw_tbl := lw_at lw_m4 151 rfl
theorem q1023 : (Jvm.Cond.instanceMethod ({ cls := "GuestView$Reader", name := "programs", desc := "()V" } : Jvm.MethodName)) ∈ lw_all := lw_g (lw_at lw_m4 152 rfl) rfl
theorem q1024 : (Jvm.Cond.code ({ cls := "GuestView$Reader", name := "programs", desc := "()V" } : Jvm.MethodName) prog_12_method_16_code (1 : Nat) (Option.none : Option Jvm.ClassFile.FieldType)) ∈ lw_all := lw_g (lw_at lw_m4 153 rfl) rfl
theorem q1025 : (Jvm.Cond.methodLink "GuestView$Reader" (205 : Nat) ({ cls := "GuestView$Reader", name := "isFigure", desc := "()Z" } : Jvm.MethodName)) ∈ lw_all := lw_g (lw_at lw_m4 154 rfl) rfl
theorem q1026 : (Jvm.Cond.privateMethod ({ cls := "GuestView$Reader", name := "isFigure", desc := "()Z" } : Jvm.MethodName)) ∈ lw_tbl := lw_at lw_m4 155 rfl
theorem q1027 : (Jvm.Cond.instanceMethod ({ cls := "GuestView$Reader", name := "isFigure", desc := "()Z" } : Jvm.MethodName)) ∈ lw_all := lw_g (lw_at lw_m4 156 rfl) rfl
theorem q1028 : (Jvm.Cond.code ({ cls := "GuestView$Reader", name := "isFigure", desc := "()Z" } : Jvm.MethodName) prog_12_method_5_code (2 : Nat) (Option.some Jvm.ClassFile.FieldType.boolean)) ∈ lw_all := lw_g (lw_at lw_m4 157 rfl) rfl
theorem q1029 : (Jvm.Cond.stringRef "GuestView$Reader" (153 : Nat) "cells") ∈ lw_tbl := lw_at lw_m4 158 rfl
theorem q1030 : (Jvm.Cond.methodLink "GuestView$Reader" (155 : Nat) ({ cls := "GuestView$Reader", name := "fills", desc := "()V" } : Jvm.MethodName)) ∈ lw_all := lw_g (lw_at lw_m4 159 rfl) rfl
theorem q1031 : (Jvm.Cond.privateMethod ({ cls := "GuestView$Reader", name := "fills", desc := "()V" } : Jvm.MethodName)) ∈ lw_tbl := lw_at lw_m4 160 rfl
theorem q1032 : (Jvm.Cond.instanceMethod ({ cls := "GuestView$Reader", name := "fills", desc := "()V" } : Jvm.MethodName)) ∈ lw_all := lw_g (lw_at lw_m4 161 rfl) rfl
theorem q1033 : (Jvm.Cond.code ({ cls := "GuestView$Reader", name := "fills", desc := "()V" } : Jvm.MethodName) prog_12_method_17_code (3 : Nat) (Option.none : Option Jvm.ClassFile.FieldType)) ∈ lw_all := lw_g (lw_at lw_m4 162 rfl) rfl
theorem q1034 : (Jvm.Cond.stringRef "GuestView$Reader" (158 : Nat) "vector") ∈ lw_tbl := lw_at lw_m4 163 rfl
theorem q1035 : (Jvm.Cond.stringRef "GuestView$Reader" (162 : Nat) "shift") ∈ lw_tbl := lw_at lw_m4 164 rfl
theorem q1036 : (Jvm.Cond.stringRef "GuestView$Reader" (166 : Nat) "cost") ∈ lw_tbl := lw_at lw_m4 165 rfl
theorem q1037 : (Jvm.Cond.stringRef "GuestView$Reader" (170 : Nat) "alarm") ∈ lw_tbl := lw_at lw_m4 166 rfl
theorem q1038 : (Jvm.Cond.stringRef "GuestView$Reader" (174 : Nat) "purse") ∈ lw_tbl := lw_at lw_m4 167 rfl
theorem q1039 : (Jvm.Cond.methodLink "GuestView$Reader" (120 : Nat) ({ cls := "GuestView$Reader", name := "expect", desc := "(Ljava/lang/String;)V" } : Jvm.MethodName)) ∈ lw_all := lw_g (lw_at lw_m4 168 rfl) rfl
theorem q1040 : (Jvm.Cond.privateMethod ({ cls := "GuestView$Reader", name := "expect", desc := "(Ljava/lang/String;)V" } : Jvm.MethodName)) ∈ lw_tbl := lw_at lw_m4 169 rfl
theorem q1041 : (Jvm.Cond.instanceMethod ({ cls := "GuestView$Reader", name := "expect", desc := "(Ljava/lang/String;)V" } : Jvm.MethodName)) ∈ lw_all := lw_g (lw_at lw_m4 170 rfl) rfl
theorem q1042 : (Jvm.Cond.code ({ cls := "GuestView$Reader", name := "expect", desc := "(Ljava/lang/String;)V" } : Jvm.MethodName) prog_12_method_7_code (2 : Nat) (Option.none : Option Jvm.ClassFile.FieldType)) ∈ lw_all := lw_g (lw_at lw_m4 171 rfl) rfl
theorem q1138 : (Jvm.Cond.instanceMethod ({ cls := "GuestView$Reader", name := "laws", desc := "(I)I" } : Jvm.MethodName)) ∈ lw_all := lw_g (lw_at lw_m5 27 rfl) rfl
theorem q1139 : (Jvm.Cond.selects "GuestView$Reader" ({ cls := "GuestView$Reader", name := "laws", desc := "(I)I" } : Jvm.MethodName) ({ cls := "GuestView$Reader", name := "laws", desc := "(I)I" } : Jvm.MethodName)) ∈ lw_all := lw_g (lw_at lw_m5 28 rfl) rfl
theorem q1140 : (Jvm.Cond.code ({ cls := "GuestView$Reader", name := "laws", desc := "(I)I" } : Jvm.MethodName) prog_12_method_18_code (6 : Nat) (Option.some Jvm.ClassFile.FieldType.int)) ∈ lw_all := lw_g (lw_at lw_m5 29 rfl) rfl
theorem q1141 : (Jvm.Cond.stringRef "GuestView$Reader" (215 : Nat) "blame") ∈ lw_tbl := lw_at lw_m5 30 rfl
theorem q1142 : (Jvm.Cond.stringRef "GuestView$Reader" (217 : Nat) "worth") ∈ lw_tbl := lw_at lw_m5 31 rfl
theorem q1143 : (Jvm.Cond.stringRef "GuestView$Reader" (219 : Nat) "if") ∈ lw_tbl := lw_at lw_m5 32 rfl
theorem q1144 : (Jvm.Cond.methodLink "GuestView$Reader" (221 : Nat) ({ cls := "GuestView$Reader", name := "row", desc := "(Z)LGuestView$Cond;" } : Jvm.MethodName)) ∈ lw_all := lw_g (lw_at lw_m5 33 rfl) rfl
theorem q1145 : (Jvm.Cond.privateMethod ({ cls := "GuestView$Reader", name := "row", desc := "(Z)LGuestView$Cond;" } : Jvm.MethodName)) ∈ lw_tbl := lw_at lw_m5 34 rfl
theorem q1146 : (Jvm.Cond.instanceMethod ({ cls := "GuestView$Reader", name := "row", desc := "(Z)LGuestView$Cond;" } : Jvm.MethodName)) ∈ lw_all := lw_g (lw_at lw_m5 35 rfl) rfl
theorem q1147 : (Jvm.Cond.code ({ cls := "GuestView$Reader", name := "row", desc := "(Z)LGuestView$Cond;" } : Jvm.MethodName) prog_12_method_19_code (4 : Nat) (Option.some (Jvm.ClassFile.FieldType.object "GuestView$Cond"))) ∈ lw_all := lw_g (lw_at lw_m5 36 rfl) rfl
theorem q1148 : (Jvm.Cond.classLink "GuestView$Reader" (235 : Nat) "GuestView$Chain") ∈ lw_all := lw_g (lw_at lw_m5 37 rfl) rfl
theorem q1150 : (Jvm.Cond.methodLink "GuestView$Reader" (237 : Nat) ({ cls := "GuestView$Reader", name := "atom", desc := "()LGuestView$Cond;" } : Jvm.MethodName)) ∈ lw_all := lw_g (lw_at lw_m5 39 rfl) rfl
theorem q1151 : (Jvm.Cond.privateMethod ({ cls := "GuestView$Reader", name := "atom", desc := "()LGuestView$Cond;" } : Jvm.MethodName)) ∈ lw_tbl := lw_at lw_m5 40 rfl
theorem q1152 : (Jvm.Cond.instanceMethod ({ cls := "GuestView$Reader", name := "atom", desc := "()LGuestView$Cond;" } : Jvm.MethodName)) ∈ lw_all := lw_g (lw_at lw_m5 41 rfl) rfl
theorem q1153 : (Jvm.Cond.code ({ cls := "GuestView$Reader", name := "atom", desc := "()LGuestView$Cond;" } : Jvm.MethodName) prog_12_method_20_code (5 : Nat) (Option.some (Jvm.ClassFile.FieldType.object "GuestView$Cond"))) ∈ lw_all := lw_g (lw_at lw_m5 42 rfl) rfl
theorem q1154 : (Jvm.Cond.stringRef "GuestView$Reader" (252 : Nat) "not") ∈ lw_tbl := lw_at lw_m5 43 rfl
theorem q1155 : (Jvm.Cond.methodLink "GuestView$Reader" (254 : Nat) ({ cls := "GuestView$Reader", name := "tag", desc := "()LGuestView$Cond;" } : Jvm.MethodName)) ∈ lw_all := lw_g (lw_at lw_m5 44 rfl) rfl
theorem q1156 : (Jvm.Cond.privateMethod ({ cls := "GuestView$Reader", name := "tag", desc := "()LGuestView$Cond;" } : Jvm.MethodName)) ∈ lw_tbl := lw_at lw_m5 45 rfl
theorem q1157 : (Jvm.Cond.instanceMethod ({ cls := "GuestView$Reader", name := "tag", desc := "()LGuestView$Cond;" } : Jvm.MethodName)) ∈ lw_all := lw_g (lw_at lw_m5 46 rfl) rfl
theorem q1158 : (Jvm.Cond.code ({ cls := "GuestView$Reader", name := "tag", desc := "()LGuestView$Cond;" } : Jvm.MethodName) prog_12_method_21_code (4 : Nat) (Option.some (Jvm.ClassFile.FieldType.object "GuestView$Cond"))) ∈ lw_all := lw_g (lw_at lw_m5 47 rfl) rfl
theorem q1159 : (Jvm.Cond.classLink "GuestView$Reader" (262 : Nat) "GuestView$Tag") ∈ lw_all := lw_g (lw_at lw_m5 48 rfl) rfl
theorem q1161 : (Jvm.Cond.methodLink "GuestView$Reader" (264 : Nat) ({ cls := "GuestView$Tag", name := "<init>", desc := "(I)V" } : Jvm.MethodName)) ∈ lw_all := lw_g (lw_at lw_m5 50 rfl) rfl
theorem q1169 : (Jvm.Cond.methodLink "GuestView$Reader" (266 : Nat) ({ cls := "GuestView$Reader", name := "sum", desc := "()LGuestView$Sum;" } : Jvm.MethodName)) ∈ lw_all := lw_g (lw_at lw_m5 58 rfl) rfl
theorem q1170 : (Jvm.Cond.privateMethod ({ cls := "GuestView$Reader", name := "sum", desc := "()LGuestView$Sum;" } : Jvm.MethodName)) ∈ lw_tbl := lw_at lw_m5 59 rfl
theorem q1171 : (Jvm.Cond.instanceMethod ({ cls := "GuestView$Reader", name := "sum", desc := "()LGuestView$Sum;" } : Jvm.MethodName)) ∈ lw_all := lw_g (lw_at lw_m5 60 rfl) rfl
theorem q1172 : (Jvm.Cond.code ({ cls := "GuestView$Reader", name := "sum", desc := "()LGuestView$Sum;" } : Jvm.MethodName) prog_12_method_22_code (2 : Nat) (Option.some (Jvm.ClassFile.FieldType.object "GuestView$Sum"))) ∈ lw_all := lw_g (lw_at lw_m5 61 rfl) rfl
theorem q1173 : (Jvm.Cond.classLink "GuestView$Reader" (275 : Nat) "GuestView$Sum") ∈ lw_all := lw_g (lw_at lw_m5 62 rfl) rfl
theorem q1175 : (Jvm.Cond.methodLinkNest "GuestView$Reader" (277 : Nat) ({ cls := "GuestView$Sum", name := "<init>", desc := "()V" } : Jvm.MethodName) "GuestView") ∈ lw_tbl := lw_at lw_m5 64 rfl
theorem q1180 : (Jvm.Cond.fieldLinkNest "GuestView$Reader" (284 : Nat) "GuestView$Sum" "times" "[I" "GuestView") ∈ lw_tbl := lw_at lw_m5 69 rfl
theorem q1182 : (Jvm.Cond.fieldLinkNest "GuestView$Reader" (282 : Nat) "GuestView$Sum" "number" "I" "GuestView") ∈ lw_tbl := lw_at lw_m5 71 rfl
theorem q1188 : (Jvm.Cond.methodLink "GuestView$Reader" (278 : Nat) ({ cls := "GuestView$Reader", name := "part", desc := "(LGuestView$Sum;)V" } : Jvm.MethodName)) ∈ lw_all := lw_g (lw_at lw_m5 77 rfl) rfl
theorem q1189 : (Jvm.Cond.privateMethod ({ cls := "GuestView$Reader", name := "part", desc := "(LGuestView$Sum;)V" } : Jvm.MethodName)) ∈ lw_tbl := lw_at lw_m5 78 rfl
theorem q1190 : (Jvm.Cond.instanceMethod ({ cls := "GuestView$Reader", name := "part", desc := "(LGuestView$Sum;)V" } : Jvm.MethodName)) ∈ lw_all := lw_g (lw_at lw_m5 79 rfl) rfl
theorem q1191 : (Jvm.Cond.code ({ cls := "GuestView$Reader", name := "part", desc := "(LGuestView$Sum;)V" } : Jvm.MethodName) prog_12_method_23_code (3 : Nat) (Option.none : Option Jvm.ClassFile.FieldType)) ∈ lw_all := lw_g (lw_at lw_m5 80 rfl) rfl
theorem q1192 : (Jvm.Cond.classLink "GuestView$Reader" (270 : Nat) "GuestView$Less") ∈ lw_all := lw_g (lw_at lw_m5 81 rfl) rfl
theorem q1194 : (Jvm.Cond.methodLink "GuestView$Reader" (272 : Nat) ({ cls := "GuestView$Less", name := "<init>", desc := "(LGuestView$Sum;LGuestView$Sum;)V" } : Jvm.MethodName)) ∈ lw_all := lw_g (lw_at lw_m5 83 rfl) rfl
theorem q1205 : (Jvm.Cond.classLink "GuestView$Reader" (257 : Nat) "GuestView$Not") ∈ lw_all := lw_g (lw_at lw_m5 94 rfl) rfl
theorem q1207 : (Jvm.Cond.methodLink "GuestView$Reader" (259 : Nat) ({ cls := "GuestView$Not", name := "<init>", desc := "(LGuestView$Cond;)V" } : Jvm.MethodName)) ∈ lw_all := lw_g (lw_at lw_m5 96 rfl) rfl
theorem q1215 : (Jvm.Cond.methodLink "GuestView$Reader" (241 : Nat) ({ cls := "GuestView$Chain", name := "<init>", desc := "(LGuestView$Cond;Z)V" } : Jvm.MethodName)) ∈ lw_all := lw_g (lw_at lw_m5 104 rfl) rfl
theorem q1222 : (Jvm.Cond.fieldLinkNest "GuestView$Reader" (248 : Nat) "GuestView$Chain" "next" "LGuestView$Chain;" "GuestView") ∈ lw_tbl := lw_at lw_m5 111 rfl
theorem q1230 : (Jvm.Cond.stringRef "GuestView$Reader" (244 : Nat) "and") ∈ lw_tbl := lw_at lw_m5 119 rfl
theorem q1231 : (Jvm.Cond.stringRef "GuestView$Reader" (246 : Nat) "or") ∈ lw_tbl := lw_at lw_m5 120 rfl
theorem q1232 : (Jvm.Cond.classLink "GuestView$Reader" (224 : Nat) "GuestView$Costs") ∈ lw_all := lw_g (lw_at lw_m5 121 rfl) rfl
theorem q1234 : (Jvm.Cond.methodLink "GuestView$Reader" (226 : Nat) ({ cls := "GuestView$Costs", name := "<init>", desc := "(ILGuestView$Cond;)V" } : Jvm.MethodName)) ∈ lw_all := lw_g (lw_at lw_m5 123 rfl) rfl
theorem q1248 : (Jvm.Cond.classLink "GuestView$Reader" (229 : Nat) "GuestView$Blames") ∈ lw_all := lw_g (lw_at lw_m5 137 rfl) rfl
theorem q1250 : (Jvm.Cond.methodLink "GuestView$Reader" (231 : Nat) ({ cls := "GuestView$Blames", name := "<init>", desc := "(ILGuestView$Cond;)V" } : Jvm.MethodName)) ∈ lw_all := lw_g (lw_at lw_m5 139 rfl) rfl
theorem q1257 : (Jvm.Cond.classLink "GuestView$Reader" (232 : Nat) "GuestView$Worths") ∈ lw_all := lw_g (lw_at lw_m5 146 rfl) rfl
theorem q1259 : (Jvm.Cond.methodLink "GuestView$Reader" (234 : Nat) ({ cls := "GuestView$Worths", name := "<init>", desc := "(ILGuestView$Cond;)V" } : Jvm.MethodName)) ∈ lw_all := lw_g (lw_at lw_m5 148 rfl) rfl
theorem q2440 : (Jvm.Cond.castable "GuestView$Reader" "java/lang/Object") ∈ lw_tbl := lw_at lw_m10 129 rfl
theorem in_X2 : ∀ w ∈ wsX20, w ∈ lw_all := lw_in wsX20 [514, 516, 518, 520, 522, 524, 526, 528, 530, 532, 534] (by decide +kernel) (by decide +kernel)
/-! GuestView$State -/
set_option maxRecDepth 100000
def RX3 : String := "GuestView$State"
def TX3 : u_T := fun k => match k with
  | 0 => ("GuestView$State", "ops", "[LGuestView$Op;", true)
  | 1 => ("GuestView$State", "law", "[LGuestView$Line;", true)
  | 2 => ("GuestView$State", "facts", "[I", true)
  | 3 => ("GuestView$State", "rows", "[I", true)
  | 4 => ("GuestView$State", "program", "[I", true)
  | 5 => ("GuestView$State", "first", "[I", true)
  | 6 => ("GuestView$State", "bare", "LGuestView$Guest;", true)
  | 7 => ("GuestView$State", "hosted", "LGuestView$Guest;", true)
  | 8 => ("GuestView$State", "many", "I", false)
  | 9 => ("GuestView$State", "programMany", "I", false)
  | 10 => ("GuestView$State", "lawMany", "I", false)
  | 11 => ("GuestView$State", "texts", "I", false)
  | 12 => ("GuestView$State", "vector", "I", false)
  | 13 => ("GuestView$State", "shift", "I", false)
  | 14 => ("GuestView$State", "cost", "I", false)
  | 15 => ("GuestView$State", "alarm", "I", false)
  | 16 => ("GuestView$State", "tick", "I", false)
  | 17 => ("GuestView$State", "purse", "I", false)
  | 18 => ("GuestView$State", "seed", "I", false)
  | _ => ("GuestView$State", "rowMany", "I", false)
def tyX3 : Nat → FieldType := fun k => match k with
  | 0 => .array (.object "GuestView$Op")
  | 1 => .array (.object "GuestView$Line")
  | 2 => .array .int
  | 3 => .array .int
  | 4 => .array .int
  | 5 => .array .int
  | 6 => .object "GuestView$Guest"
  | 7 => .object "GuestView$Guest"
  | 8 => .int
  | 9 => .int
  | 10 => .int
  | 11 => .int
  | 12 => .int
  | 13 => .int
  | 14 => .int
  | 15 => .int
  | 16 => .int
  | 17 => .int
  | 18 => .int
  | _ => .int
abbrev wsX30 : List Cond := u_ws RX3 TX3 20
set_option maxRecDepth 100000 in
theorem nmX3 : ∀ a, a < 20 → ∀ b, b < 20 → a ≠ b → (TX3 a).2.1 ≠ (TX3 b).2.1 := by decide +kernel
set_option maxRecDepth 100000 in
theorem tyX3_ok : ∀ k, k < 20 → parseFieldDescriptor (TX3 k).2.2.1 = some (tyX3 k) := by decide +kernel
abbrev cX3_init : ByteArray := prog_13_method_1_code
def yX3_init : MethodName := ⟨RX3, "<init>", "()V"⟩
def dkwX3_init_5 : List UInt8 := [132, 1, 1, 167, 255, 234, 177]
abbrev dktX3_init_5 : List UInt8 := dkwX3_init_5 ++ []
def dkwX3_init_4 : List UInt8 := [181, 0, 56, 3, 60, 27, 16, 8, 162, 0, 22, 42, 180, 0, 11, 27, 187, 0, 9, 89, 183, 0, 59, 83]
abbrev dktX3_init_4 : List UInt8 := dkwX3_init_4 ++ dktX3_init_5
def dkwX3_init_3 : List UInt8 := [183, 0, 38, 181, 0, 43, 42, 2, 181, 0, 46, 42, 4, 181, 0, 50, 42, 4, 181, 0, 53, 42, 4]
abbrev dktX3_init_3 : List UInt8 := dkwX3_init_3 ++ dktX3_init_4
def dkwX3_init_2 : List UInt8 := [42, 16, 8, 188, 10, 181, 0, 33, 42, 187, 0, 36, 89, 183, 0, 38, 181, 0, 39, 42, 187, 0, 36, 89]
abbrev dktX3_init_2 : List UInt8 := dkwX3_init_2 ++ dktX3_init_3
def dkwX3_init_1 : List UInt8 := [16, 10, 188, 10, 181, 0, 23, 42, 17, 0, 240, 188, 10, 181, 0, 27, 42, 16, 10, 188, 10, 181, 0, 30]
abbrev dktX3_init_1 : List UInt8 := dkwX3_init_1 ++ dktX3_init_2
def dkwX3_init_0 : List UInt8 := [42, 183, 0, 3, 42, 16, 8, 189, 0, 9, 181, 0, 11, 42, 16, 12, 189, 0, 17, 181, 0, 19, 42]
abbrev dktX3_init_0 : List UInt8 := dkwX3_init_0 ++ dktX3_init_1
theorem dksX3_init_0 : cX3_init.data.toList.drop 0 = dktX3_init_0 := by decide +kernel
theorem dksX3_init_1 : cX3_init.data.toList.drop 23 = dktX3_init_1 := dk_seg dksX3_init_0 23 rfl rfl
theorem dksX3_init_2 : cX3_init.data.toList.drop 47 = dktX3_init_2 := dk_seg dksX3_init_1 24 rfl rfl
theorem dksX3_init_3 : cX3_init.data.toList.drop 71 = dktX3_init_3 := dk_seg dksX3_init_2 24 rfl rfl
theorem dksX3_init_4 : cX3_init.data.toList.drop 94 = dktX3_init_4 := dk_seg dksX3_init_3 23 rfl rfl
theorem dksX3_init_5 : cX3_init.data.toList.drop 118 = dktX3_init_5 := dk_seg dksX3_init_4 24 rfl rfl
theorem dX3_init_0 : decode cX3_init 0 = .ok (.aload_n 0, 1) := dk_42 (dk_at dksX3_init_0 0 rfl rfl)
theorem dX3_init_1 : decode cX3_init 1 = .ok (.invokespecial 3, 3) := dk_183 0 3 (dk_at dksX3_init_0 1 rfl rfl)
theorem dX3_init_4 : decode cX3_init 4 = .ok (.aload_n 0, 1) := dk_42 (dk_at dksX3_init_0 4 rfl rfl)
theorem dX3_init_5 : decode cX3_init 5 = .ok (.bipush 8, 2) := dk_16 8 (dk_at dksX3_init_0 5 rfl rfl)
theorem dX3_init_7 : decode cX3_init 7 = .ok (.anewarray 9, 3) := dk_189 0 9 (dk_at dksX3_init_0 7 rfl rfl)
theorem dX3_init_10 : decode cX3_init 10 = .ok (.putfield 11, 3) := dk_181 0 11 (dk_at dksX3_init_0 10 rfl rfl)
theorem dX3_init_13 : decode cX3_init 13 = .ok (.aload_n 0, 1) := dk_42 (dk_at dksX3_init_0 13 rfl rfl)
theorem dX3_init_14 : decode cX3_init 14 = .ok (.bipush 12, 2) := dk_16 12 (dk_at dksX3_init_0 14 rfl rfl)
theorem dX3_init_16 : decode cX3_init 16 = .ok (.anewarray 17, 3) := dk_189 0 17 (dk_at dksX3_init_0 16 rfl rfl)
theorem dX3_init_19 : decode cX3_init 19 = .ok (.putfield 19, 3) := dk_181 0 19 (dk_at dksX3_init_0 19 rfl rfl)
theorem dX3_init_22 : decode cX3_init 22 = .ok (.aload_n 0, 1) := dk_42 (dk_at dksX3_init_0 22 rfl rfl)
theorem dX3_init_23 : decode cX3_init 23 = .ok (.bipush 10, 2) := dk_16 10 (dk_at dksX3_init_1 0 rfl rfl)
theorem dX3_init_25 : decode cX3_init 25 = .ok (.newarray .int, 2) := dk_188_10 (dk_at dksX3_init_1 2 rfl rfl)
theorem dX3_init_27 : decode cX3_init 27 = .ok (.putfield 23, 3) := dk_181 0 23 (dk_at dksX3_init_1 4 rfl rfl)
theorem dX3_init_30 : decode cX3_init 30 = .ok (.aload_n 0, 1) := dk_42 (dk_at dksX3_init_1 7 rfl rfl)
theorem dX3_init_31 : decode cX3_init 31 = .ok (.sipush 240, 3) := dk_17 0 240 (dk_at dksX3_init_1 8 rfl rfl)
theorem dX3_init_34 : decode cX3_init 34 = .ok (.newarray .int, 2) := dk_188_10 (dk_at dksX3_init_1 11 rfl rfl)
theorem dX3_init_36 : decode cX3_init 36 = .ok (.putfield 27, 3) := dk_181 0 27 (dk_at dksX3_init_1 13 rfl rfl)
theorem dX3_init_39 : decode cX3_init 39 = .ok (.aload_n 0, 1) := dk_42 (dk_at dksX3_init_1 16 rfl rfl)
theorem dX3_init_40 : decode cX3_init 40 = .ok (.bipush 10, 2) := dk_16 10 (dk_at dksX3_init_1 17 rfl rfl)
theorem dX3_init_42 : decode cX3_init 42 = .ok (.newarray .int, 2) := dk_188_10 (dk_at dksX3_init_1 19 rfl rfl)
theorem dX3_init_44 : decode cX3_init 44 = .ok (.putfield 30, 3) := dk_181 0 30 (dk_at dksX3_init_1 21 rfl rfl)
theorem dX3_init_47 : decode cX3_init 47 = .ok (.aload_n 0, 1) := dk_42 (dk_at dksX3_init_2 0 rfl rfl)
theorem dX3_init_48 : decode cX3_init 48 = .ok (.bipush 8, 2) := dk_16 8 (dk_at dksX3_init_2 1 rfl rfl)
theorem dX3_init_50 : decode cX3_init 50 = .ok (.newarray .int, 2) := dk_188_10 (dk_at dksX3_init_2 3 rfl rfl)
theorem dX3_init_52 : decode cX3_init 52 = .ok (.putfield 33, 3) := dk_181 0 33 (dk_at dksX3_init_2 5 rfl rfl)
theorem dX3_init_55 : decode cX3_init 55 = .ok (.aload_n 0, 1) := dk_42 (dk_at dksX3_init_2 8 rfl rfl)
theorem dX3_init_56 : decode cX3_init 56 = .ok (.new 36, 3) := dk_187 0 36 (dk_at dksX3_init_2 9 rfl rfl)
theorem dX3_init_59 : decode cX3_init 59 = .ok (.dup, 1) := dk_89 (dk_at dksX3_init_2 12 rfl rfl)
theorem dX3_init_60 : decode cX3_init 60 = .ok (.invokespecial 38, 3) := dk_183 0 38 (dk_at dksX3_init_2 13 rfl rfl)
theorem dX3_init_63 : decode cX3_init 63 = .ok (.putfield 39, 3) := dk_181 0 39 (dk_at dksX3_init_2 16 rfl rfl)
theorem dX3_init_66 : decode cX3_init 66 = .ok (.aload_n 0, 1) := dk_42 (dk_at dksX3_init_2 19 rfl rfl)
theorem dX3_init_67 : decode cX3_init 67 = .ok (.new 36, 3) := dk_187 0 36 (dk_at dksX3_init_2 20 rfl rfl)
theorem dX3_init_70 : decode cX3_init 70 = .ok (.dup, 1) := dk_89 (dk_at dksX3_init_2 23 rfl rfl)
theorem dX3_init_71 : decode cX3_init 71 = .ok (.invokespecial 38, 3) := dk_183 0 38 (dk_at dksX3_init_3 0 rfl rfl)
theorem dX3_init_74 : decode cX3_init 74 = .ok (.putfield 43, 3) := dk_181 0 43 (dk_at dksX3_init_3 3 rfl rfl)
theorem dX3_init_77 : decode cX3_init 77 = .ok (.aload_n 0, 1) := dk_42 (dk_at dksX3_init_3 6 rfl rfl)
theorem dX3_init_78 : decode cX3_init 78 = .ok (.iconst (-1), 1) := dk_2 (dk_at dksX3_init_3 7 rfl rfl)
theorem dX3_init_79 : decode cX3_init 79 = .ok (.putfield 46, 3) := dk_181 0 46 (dk_at dksX3_init_3 8 rfl rfl)
theorem dX3_init_82 : decode cX3_init 82 = .ok (.aload_n 0, 1) := dk_42 (dk_at dksX3_init_3 11 rfl rfl)
theorem dX3_init_83 : decode cX3_init 83 = .ok (.iconst 1, 1) := dk_4 (dk_at dksX3_init_3 12 rfl rfl)
theorem dX3_init_84 : decode cX3_init 84 = .ok (.putfield 50, 3) := dk_181 0 50 (dk_at dksX3_init_3 13 rfl rfl)
theorem dX3_init_87 : decode cX3_init 87 = .ok (.aload_n 0, 1) := dk_42 (dk_at dksX3_init_3 16 rfl rfl)
theorem dX3_init_88 : decode cX3_init 88 = .ok (.iconst 1, 1) := dk_4 (dk_at dksX3_init_3 17 rfl rfl)
theorem dX3_init_89 : decode cX3_init 89 = .ok (.putfield 53, 3) := dk_181 0 53 (dk_at dksX3_init_3 18 rfl rfl)
theorem dX3_init_92 : decode cX3_init 92 = .ok (.aload_n 0, 1) := dk_42 (dk_at dksX3_init_3 21 rfl rfl)
theorem dX3_init_93 : decode cX3_init 93 = .ok (.iconst 1, 1) := dk_4 (dk_at dksX3_init_3 22 rfl rfl)
theorem dX3_init_94 : decode cX3_init 94 = .ok (.putfield 56, 3) := dk_181 0 56 (dk_at dksX3_init_4 0 rfl rfl)
theorem dX3_init_97 : decode cX3_init 97 = .ok (.iconst 0, 1) := dk_3 (dk_at dksX3_init_4 3 rfl rfl)
theorem dX3_init_98 : decode cX3_init 98 = .ok (.istore_n 1, 1) := dk_60 (dk_at dksX3_init_4 4 rfl rfl)
theorem dX3_init_99 : decode cX3_init 99 = .ok (.iload_n 1, 1) := dk_27 (dk_at dksX3_init_4 5 rfl rfl)
theorem dX3_init_100 : decode cX3_init 100 = .ok (.bipush 8, 2) := dk_16 8 (dk_at dksX3_init_4 6 rfl rfl)
theorem dX3_init_102 : decode cX3_init 102 = .ok (.if_icmp .ge 22, 3) := dk_162 0 22 (dk_at dksX3_init_4 8 rfl rfl)
theorem dX3_init_105 : decode cX3_init 105 = .ok (.aload_n 0, 1) := dk_42 (dk_at dksX3_init_4 11 rfl rfl)
theorem dX3_init_106 : decode cX3_init 106 = .ok (.getfield 11, 3) := dk_180 0 11 (dk_at dksX3_init_4 12 rfl rfl)
theorem dX3_init_109 : decode cX3_init 109 = .ok (.iload_n 1, 1) := dk_27 (dk_at dksX3_init_4 15 rfl rfl)
theorem dX3_init_110 : decode cX3_init 110 = .ok (.new 9, 3) := dk_187 0 9 (dk_at dksX3_init_4 16 rfl rfl)
theorem dX3_init_113 : decode cX3_init 113 = .ok (.dup, 1) := dk_89 (dk_at dksX3_init_4 19 rfl rfl)
theorem dX3_init_114 : decode cX3_init 114 = .ok (.invokespecial 59, 3) := dk_183 0 59 (dk_at dksX3_init_4 20 rfl rfl)
theorem dX3_init_117 : decode cX3_init 117 = .ok (.aastore, 1) := dk_83 (dk_at dksX3_init_4 23 rfl rfl)
theorem dX3_init_118 : decode cX3_init 118 = .ok (.iinc 1 1, 3) := dk_132 1 1 (dk_at dksX3_init_5 0 rfl rfl)
theorem dX3_init_121 : decode cX3_init 121 = .ok (.goto (-22), 3) := dk_167 255 234 (dk_at dksX3_init_5 3 rfl rfl)
theorem dX3_init_124 : decode cX3_init 124 = .ok (.return_, 1) := dk_177 (dk_at dksX3_init_5 6 rfl rfl)
abbrev cX3_boots : ByteArray := prog_13_method_4_code
def yX3_boots : MethodName := ⟨RX3, "boots", "(LGuestView$Guest;LGuestView$Guest;)V"⟩
def dkwX3_boots_0 : List UInt8 := [43, 42, 180, 0, 33, 3, 182, 0, 98, 44, 42, 180, 0, 33, 5, 42, 180, 0, 50, 104, 182, 0, 98, 177]
abbrev dktX3_boots_0 : List UInt8 := dkwX3_boots_0 ++ []
theorem dksX3_boots_0 : cX3_boots.data.toList.drop 0 = dktX3_boots_0 := by decide +kernel
theorem dX3_boots_0 : decode cX3_boots 0 = .ok (.aload_n 1, 1) := dk_43 (dk_at dksX3_boots_0 0 rfl rfl)
theorem dX3_boots_1 : decode cX3_boots 1 = .ok (.aload_n 0, 1) := dk_42 (dk_at dksX3_boots_0 1 rfl rfl)
theorem dX3_boots_2 : decode cX3_boots 2 = .ok (.getfield 33, 3) := dk_180 0 33 (dk_at dksX3_boots_0 2 rfl rfl)
theorem dX3_boots_5 : decode cX3_boots 5 = .ok (.iconst 0, 1) := dk_3 (dk_at dksX3_boots_0 5 rfl rfl)
theorem dX3_boots_6 : decode cX3_boots 6 = .ok (.invokevirtual 98, 3) := dk_182 0 98 (dk_at dksX3_boots_0 6 rfl rfl)
theorem dX3_boots_9 : decode cX3_boots 9 = .ok (.aload_n 2, 1) := dk_44 (dk_at dksX3_boots_0 9 rfl rfl)
theorem dX3_boots_10 : decode cX3_boots 10 = .ok (.aload_n 0, 1) := dk_42 (dk_at dksX3_boots_0 10 rfl rfl)
theorem dX3_boots_11 : decode cX3_boots 11 = .ok (.getfield 33, 3) := dk_180 0 33 (dk_at dksX3_boots_0 11 rfl rfl)
theorem dX3_boots_14 : decode cX3_boots 14 = .ok (.iconst 2, 1) := dk_5 (dk_at dksX3_boots_0 14 rfl rfl)
theorem dX3_boots_15 : decode cX3_boots 15 = .ok (.aload_n 0, 1) := dk_42 (dk_at dksX3_boots_0 15 rfl rfl)
theorem dX3_boots_16 : decode cX3_boots 16 = .ok (.getfield 50, 3) := dk_180 0 50 (dk_at dksX3_boots_0 16 rfl rfl)
theorem dX3_boots_19 : decode cX3_boots 19 = .ok (.imul, 1) := dk_104 (dk_at dksX3_boots_0 19 rfl rfl)
theorem dX3_boots_20 : decode cX3_boots 20 = .ok (.invokevirtual 98, 3) := dk_182 0 98 (dk_at dksX3_boots_0 20 rfl rfl)
theorem dX3_boots_23 : decode cX3_boots 23 = .ok (.return_, 1) := dk_177 (dk_at dksX3_boots_0 23 rfl rfl)
abbrev cX3_be : ByteArray := prog_13_method_2_code
def yX3_be : MethodName := ⟨RX3, "be", "(LGuestView$State;)V"⟩
def dkwX3_be_8 : List UInt8 := [180, 0, 91, 181, 0, 91, 42, 43, 180, 0, 56, 181, 0, 56, 42, 43, 180, 0, 94, 181, 0, 94, 177]
abbrev dktX3_be_8 : List UInt8 := dkwX3_be_8 ++ []
def dkwX3_be_7 : List UInt8 := [180, 0, 53, 181, 0, 53, 42, 43, 180, 0, 85, 181, 0, 85, 42, 43, 180, 0, 88, 181, 0, 88, 42, 43]
abbrev dktX3_be_7 : List UInt8 := dkwX3_be_7 ++ dktX3_be_8
def dkwX3_be_6 : List UInt8 := [180, 0, 79, 181, 0, 79, 42, 43, 180, 0, 82, 181, 0, 82, 42, 43, 180, 0, 50, 181, 0, 50, 42, 43]
abbrev dktX3_be_6 : List UInt8 := dkwX3_be_6 ++ dktX3_be_7
def dkwX3_be_5 : List UInt8 := [180, 0, 60, 181, 0, 60, 42, 43, 180, 0, 76, 181, 0, 76, 42, 43, 180, 0, 46, 181, 0, 46, 42, 43]
abbrev dktX3_be_5 : List UInt8 := dkwX3_be_5 ++ dktX3_be_6
def dkwX3_be_4 : List UInt8 := [42, 180, 0, 39, 43, 180, 0, 39, 182, 0, 73, 42, 180, 0, 43, 43, 180, 0, 43, 182, 0, 73, 42, 43]
abbrev dktX3_be_4 : List UInt8 := dkwX3_be_4 ++ dktX3_be_5
def dkwX3_be_3 : List UInt8 := [180, 0, 30, 3, 16, 10, 184, 0, 67, 43, 180, 0, 33, 3, 42, 180, 0, 33, 3, 16, 8, 184, 0, 67]
abbrev dktX3_be_3 : List UInt8 := dkwX3_be_3 ++ dktX3_be_4
def dkwX3_be_2 : List UInt8 := [43, 180, 0, 27, 3, 42, 180, 0, 27, 3, 17, 0, 240, 184, 0, 67, 43, 180, 0, 30, 3, 42]
abbrev dktX3_be_2 : List UInt8 := dkwX3_be_2 ++ dktX3_be_3
def dkwX3_be_1 : List UInt8 := [182, 0, 63, 132, 2, 1, 167, 255, 230, 43, 180, 0, 19, 3, 42, 180, 0, 19, 3, 16, 12, 184, 0, 67]
abbrev dktX3_be_1 : List UInt8 := dkwX3_be_1 ++ dktX3_be_2
def dkwX3_be_0 : List UInt8 := [3, 61, 28, 43, 180, 0, 60, 162, 0, 24, 42, 180, 0, 11, 28, 50, 43, 180, 0, 11, 28, 50]
abbrev dktX3_be_0 : List UInt8 := dkwX3_be_0 ++ dktX3_be_1
theorem dksX3_be_0 : cX3_be.data.toList.drop 0 = dktX3_be_0 := by decide +kernel
theorem dksX3_be_1 : cX3_be.data.toList.drop 22 = dktX3_be_1 := dk_seg dksX3_be_0 22 rfl rfl
theorem dksX3_be_2 : cX3_be.data.toList.drop 46 = dktX3_be_2 := dk_seg dksX3_be_1 24 rfl rfl
theorem dksX3_be_3 : cX3_be.data.toList.drop 68 = dktX3_be_3 := dk_seg dksX3_be_2 22 rfl rfl
theorem dksX3_be_4 : cX3_be.data.toList.drop 92 = dktX3_be_4 := dk_seg dksX3_be_3 24 rfl rfl
theorem dksX3_be_5 : cX3_be.data.toList.drop 116 = dktX3_be_5 := dk_seg dksX3_be_4 24 rfl rfl
theorem dksX3_be_6 : cX3_be.data.toList.drop 140 = dktX3_be_6 := dk_seg dksX3_be_5 24 rfl rfl
theorem dksX3_be_7 : cX3_be.data.toList.drop 164 = dktX3_be_7 := dk_seg dksX3_be_6 24 rfl rfl
theorem dksX3_be_8 : cX3_be.data.toList.drop 188 = dktX3_be_8 := dk_seg dksX3_be_7 24 rfl rfl
theorem dX3_be_0 : decode cX3_be 0 = .ok (.iconst 0, 1) := dk_3 (dk_at dksX3_be_0 0 rfl rfl)
theorem dX3_be_1 : decode cX3_be 1 = .ok (.istore_n 2, 1) := dk_61 (dk_at dksX3_be_0 1 rfl rfl)
theorem dX3_be_2 : decode cX3_be 2 = .ok (.iload_n 2, 1) := dk_28 (dk_at dksX3_be_0 2 rfl rfl)
theorem dX3_be_3 : decode cX3_be 3 = .ok (.aload_n 1, 1) := dk_43 (dk_at dksX3_be_0 3 rfl rfl)
theorem dX3_be_4 : decode cX3_be 4 = .ok (.getfield 60, 3) := dk_180 0 60 (dk_at dksX3_be_0 4 rfl rfl)
theorem dX3_be_7 : decode cX3_be 7 = .ok (.if_icmp .ge 24, 3) := dk_162 0 24 (dk_at dksX3_be_0 7 rfl rfl)
theorem dX3_be_10 : decode cX3_be 10 = .ok (.aload_n 0, 1) := dk_42 (dk_at dksX3_be_0 10 rfl rfl)
theorem dX3_be_11 : decode cX3_be 11 = .ok (.getfield 11, 3) := dk_180 0 11 (dk_at dksX3_be_0 11 rfl rfl)
theorem dX3_be_14 : decode cX3_be 14 = .ok (.iload_n 2, 1) := dk_28 (dk_at dksX3_be_0 14 rfl rfl)
theorem dX3_be_15 : decode cX3_be 15 = .ok (.aaload, 1) := dk_50 (dk_at dksX3_be_0 15 rfl rfl)
theorem dX3_be_16 : decode cX3_be 16 = .ok (.aload_n 1, 1) := dk_43 (dk_at dksX3_be_0 16 rfl rfl)
theorem dX3_be_17 : decode cX3_be 17 = .ok (.getfield 11, 3) := dk_180 0 11 (dk_at dksX3_be_0 17 rfl rfl)
theorem dX3_be_20 : decode cX3_be 20 = .ok (.iload_n 2, 1) := dk_28 (dk_at dksX3_be_0 20 rfl rfl)
theorem dX3_be_21 : decode cX3_be 21 = .ok (.aaload, 1) := dk_50 (dk_at dksX3_be_0 21 rfl rfl)
theorem dX3_be_22 : decode cX3_be 22 = .ok (.invokevirtual 63, 3) := dk_182 0 63 (dk_at dksX3_be_1 0 rfl rfl)
theorem dX3_be_25 : decode cX3_be 25 = .ok (.iinc 2 1, 3) := dk_132 2 1 (dk_at dksX3_be_1 3 rfl rfl)
theorem dX3_be_28 : decode cX3_be 28 = .ok (.goto (-26), 3) := dk_167 255 230 (dk_at dksX3_be_1 6 rfl rfl)
theorem dX3_be_31 : decode cX3_be 31 = .ok (.aload_n 1, 1) := dk_43 (dk_at dksX3_be_1 9 rfl rfl)
theorem dX3_be_32 : decode cX3_be 32 = .ok (.getfield 19, 3) := dk_180 0 19 (dk_at dksX3_be_1 10 rfl rfl)
theorem dX3_be_35 : decode cX3_be 35 = .ok (.iconst 0, 1) := dk_3 (dk_at dksX3_be_1 13 rfl rfl)
theorem dX3_be_36 : decode cX3_be 36 = .ok (.aload_n 0, 1) := dk_42 (dk_at dksX3_be_1 14 rfl rfl)
theorem dX3_be_37 : decode cX3_be 37 = .ok (.getfield 19, 3) := dk_180 0 19 (dk_at dksX3_be_1 15 rfl rfl)
theorem dX3_be_40 : decode cX3_be 40 = .ok (.iconst 0, 1) := dk_3 (dk_at dksX3_be_1 18 rfl rfl)
theorem dX3_be_41 : decode cX3_be 41 = .ok (.bipush 12, 2) := dk_16 12 (dk_at dksX3_be_1 19 rfl rfl)
theorem dX3_be_43 : decode cX3_be 43 = .ok (.invokestatic 67, 3) := dk_184 0 67 (dk_at dksX3_be_1 21 rfl rfl)
theorem dX3_be_46 : decode cX3_be 46 = .ok (.aload_n 1, 1) := dk_43 (dk_at dksX3_be_2 0 rfl rfl)
theorem dX3_be_47 : decode cX3_be 47 = .ok (.getfield 27, 3) := dk_180 0 27 (dk_at dksX3_be_2 1 rfl rfl)
theorem dX3_be_50 : decode cX3_be 50 = .ok (.iconst 0, 1) := dk_3 (dk_at dksX3_be_2 4 rfl rfl)
theorem dX3_be_51 : decode cX3_be 51 = .ok (.aload_n 0, 1) := dk_42 (dk_at dksX3_be_2 5 rfl rfl)
theorem dX3_be_52 : decode cX3_be 52 = .ok (.getfield 27, 3) := dk_180 0 27 (dk_at dksX3_be_2 6 rfl rfl)
theorem dX3_be_55 : decode cX3_be 55 = .ok (.iconst 0, 1) := dk_3 (dk_at dksX3_be_2 9 rfl rfl)
theorem dX3_be_56 : decode cX3_be 56 = .ok (.sipush 240, 3) := dk_17 0 240 (dk_at dksX3_be_2 10 rfl rfl)
theorem dX3_be_59 : decode cX3_be 59 = .ok (.invokestatic 67, 3) := dk_184 0 67 (dk_at dksX3_be_2 13 rfl rfl)
theorem dX3_be_62 : decode cX3_be 62 = .ok (.aload_n 1, 1) := dk_43 (dk_at dksX3_be_2 16 rfl rfl)
theorem dX3_be_63 : decode cX3_be 63 = .ok (.getfield 30, 3) := dk_180 0 30 (dk_at dksX3_be_2 17 rfl rfl)
theorem dX3_be_66 : decode cX3_be 66 = .ok (.iconst 0, 1) := dk_3 (dk_at dksX3_be_2 20 rfl rfl)
theorem dX3_be_67 : decode cX3_be 67 = .ok (.aload_n 0, 1) := dk_42 (dk_at dksX3_be_2 21 rfl rfl)
theorem dX3_be_68 : decode cX3_be 68 = .ok (.getfield 30, 3) := dk_180 0 30 (dk_at dksX3_be_3 0 rfl rfl)
theorem dX3_be_71 : decode cX3_be 71 = .ok (.iconst 0, 1) := dk_3 (dk_at dksX3_be_3 3 rfl rfl)
theorem dX3_be_72 : decode cX3_be 72 = .ok (.bipush 10, 2) := dk_16 10 (dk_at dksX3_be_3 4 rfl rfl)
theorem dX3_be_74 : decode cX3_be 74 = .ok (.invokestatic 67, 3) := dk_184 0 67 (dk_at dksX3_be_3 6 rfl rfl)
theorem dX3_be_77 : decode cX3_be 77 = .ok (.aload_n 1, 1) := dk_43 (dk_at dksX3_be_3 9 rfl rfl)
theorem dX3_be_78 : decode cX3_be 78 = .ok (.getfield 33, 3) := dk_180 0 33 (dk_at dksX3_be_3 10 rfl rfl)
theorem dX3_be_81 : decode cX3_be 81 = .ok (.iconst 0, 1) := dk_3 (dk_at dksX3_be_3 13 rfl rfl)
theorem dX3_be_82 : decode cX3_be 82 = .ok (.aload_n 0, 1) := dk_42 (dk_at dksX3_be_3 14 rfl rfl)
theorem dX3_be_83 : decode cX3_be 83 = .ok (.getfield 33, 3) := dk_180 0 33 (dk_at dksX3_be_3 15 rfl rfl)
theorem dX3_be_86 : decode cX3_be 86 = .ok (.iconst 0, 1) := dk_3 (dk_at dksX3_be_3 18 rfl rfl)
theorem dX3_be_87 : decode cX3_be 87 = .ok (.bipush 8, 2) := dk_16 8 (dk_at dksX3_be_3 19 rfl rfl)
theorem dX3_be_89 : decode cX3_be 89 = .ok (.invokestatic 67, 3) := dk_184 0 67 (dk_at dksX3_be_3 21 rfl rfl)
theorem dX3_be_92 : decode cX3_be 92 = .ok (.aload_n 0, 1) := dk_42 (dk_at dksX3_be_4 0 rfl rfl)
theorem dX3_be_93 : decode cX3_be 93 = .ok (.getfield 39, 3) := dk_180 0 39 (dk_at dksX3_be_4 1 rfl rfl)
theorem dX3_be_96 : decode cX3_be 96 = .ok (.aload_n 1, 1) := dk_43 (dk_at dksX3_be_4 4 rfl rfl)
theorem dX3_be_97 : decode cX3_be 97 = .ok (.getfield 39, 3) := dk_180 0 39 (dk_at dksX3_be_4 5 rfl rfl)
theorem dX3_be_100 : decode cX3_be 100 = .ok (.invokevirtual 73, 3) := dk_182 0 73 (dk_at dksX3_be_4 8 rfl rfl)
theorem dX3_be_103 : decode cX3_be 103 = .ok (.aload_n 0, 1) := dk_42 (dk_at dksX3_be_4 11 rfl rfl)
theorem dX3_be_104 : decode cX3_be 104 = .ok (.getfield 43, 3) := dk_180 0 43 (dk_at dksX3_be_4 12 rfl rfl)
theorem dX3_be_107 : decode cX3_be 107 = .ok (.aload_n 1, 1) := dk_43 (dk_at dksX3_be_4 15 rfl rfl)
theorem dX3_be_108 : decode cX3_be 108 = .ok (.getfield 43, 3) := dk_180 0 43 (dk_at dksX3_be_4 16 rfl rfl)
theorem dX3_be_111 : decode cX3_be 111 = .ok (.invokevirtual 73, 3) := dk_182 0 73 (dk_at dksX3_be_4 19 rfl rfl)
theorem dX3_be_114 : decode cX3_be 114 = .ok (.aload_n 0, 1) := dk_42 (dk_at dksX3_be_4 22 rfl rfl)
theorem dX3_be_115 : decode cX3_be 115 = .ok (.aload_n 1, 1) := dk_43 (dk_at dksX3_be_4 23 rfl rfl)
theorem dX3_be_116 : decode cX3_be 116 = .ok (.getfield 60, 3) := dk_180 0 60 (dk_at dksX3_be_5 0 rfl rfl)
theorem dX3_be_119 : decode cX3_be 119 = .ok (.putfield 60, 3) := dk_181 0 60 (dk_at dksX3_be_5 3 rfl rfl)
theorem dX3_be_122 : decode cX3_be 122 = .ok (.aload_n 0, 1) := dk_42 (dk_at dksX3_be_5 6 rfl rfl)
theorem dX3_be_123 : decode cX3_be 123 = .ok (.aload_n 1, 1) := dk_43 (dk_at dksX3_be_5 7 rfl rfl)
theorem dX3_be_124 : decode cX3_be 124 = .ok (.getfield 76, 3) := dk_180 0 76 (dk_at dksX3_be_5 8 rfl rfl)
theorem dX3_be_127 : decode cX3_be 127 = .ok (.putfield 76, 3) := dk_181 0 76 (dk_at dksX3_be_5 11 rfl rfl)
theorem dX3_be_130 : decode cX3_be 130 = .ok (.aload_n 0, 1) := dk_42 (dk_at dksX3_be_5 14 rfl rfl)
theorem dX3_be_131 : decode cX3_be 131 = .ok (.aload_n 1, 1) := dk_43 (dk_at dksX3_be_5 15 rfl rfl)
theorem dX3_be_132 : decode cX3_be 132 = .ok (.getfield 46, 3) := dk_180 0 46 (dk_at dksX3_be_5 16 rfl rfl)
theorem dX3_be_135 : decode cX3_be 135 = .ok (.putfield 46, 3) := dk_181 0 46 (dk_at dksX3_be_5 19 rfl rfl)
theorem dX3_be_138 : decode cX3_be 138 = .ok (.aload_n 0, 1) := dk_42 (dk_at dksX3_be_5 22 rfl rfl)
theorem dX3_be_139 : decode cX3_be 139 = .ok (.aload_n 1, 1) := dk_43 (dk_at dksX3_be_5 23 rfl rfl)
theorem dX3_be_140 : decode cX3_be 140 = .ok (.getfield 79, 3) := dk_180 0 79 (dk_at dksX3_be_6 0 rfl rfl)
theorem dX3_be_143 : decode cX3_be 143 = .ok (.putfield 79, 3) := dk_181 0 79 (dk_at dksX3_be_6 3 rfl rfl)
theorem dX3_be_146 : decode cX3_be 146 = .ok (.aload_n 0, 1) := dk_42 (dk_at dksX3_be_6 6 rfl rfl)
theorem dX3_be_147 : decode cX3_be 147 = .ok (.aload_n 1, 1) := dk_43 (dk_at dksX3_be_6 7 rfl rfl)
theorem dX3_be_148 : decode cX3_be 148 = .ok (.getfield 82, 3) := dk_180 0 82 (dk_at dksX3_be_6 8 rfl rfl)
theorem dX3_be_151 : decode cX3_be 151 = .ok (.putfield 82, 3) := dk_181 0 82 (dk_at dksX3_be_6 11 rfl rfl)
theorem dX3_be_154 : decode cX3_be 154 = .ok (.aload_n 0, 1) := dk_42 (dk_at dksX3_be_6 14 rfl rfl)
theorem dX3_be_155 : decode cX3_be 155 = .ok (.aload_n 1, 1) := dk_43 (dk_at dksX3_be_6 15 rfl rfl)
theorem dX3_be_156 : decode cX3_be 156 = .ok (.getfield 50, 3) := dk_180 0 50 (dk_at dksX3_be_6 16 rfl rfl)
theorem dX3_be_159 : decode cX3_be 159 = .ok (.putfield 50, 3) := dk_181 0 50 (dk_at dksX3_be_6 19 rfl rfl)
theorem dX3_be_162 : decode cX3_be 162 = .ok (.aload_n 0, 1) := dk_42 (dk_at dksX3_be_6 22 rfl rfl)
theorem dX3_be_163 : decode cX3_be 163 = .ok (.aload_n 1, 1) := dk_43 (dk_at dksX3_be_6 23 rfl rfl)
theorem dX3_be_164 : decode cX3_be 164 = .ok (.getfield 53, 3) := dk_180 0 53 (dk_at dksX3_be_7 0 rfl rfl)
theorem dX3_be_167 : decode cX3_be 167 = .ok (.putfield 53, 3) := dk_181 0 53 (dk_at dksX3_be_7 3 rfl rfl)
theorem dX3_be_170 : decode cX3_be 170 = .ok (.aload_n 0, 1) := dk_42 (dk_at dksX3_be_7 6 rfl rfl)
theorem dX3_be_171 : decode cX3_be 171 = .ok (.aload_n 1, 1) := dk_43 (dk_at dksX3_be_7 7 rfl rfl)
theorem dX3_be_172 : decode cX3_be 172 = .ok (.getfield 85, 3) := dk_180 0 85 (dk_at dksX3_be_7 8 rfl rfl)
theorem dX3_be_175 : decode cX3_be 175 = .ok (.putfield 85, 3) := dk_181 0 85 (dk_at dksX3_be_7 11 rfl rfl)
theorem dX3_be_178 : decode cX3_be 178 = .ok (.aload_n 0, 1) := dk_42 (dk_at dksX3_be_7 14 rfl rfl)
theorem dX3_be_179 : decode cX3_be 179 = .ok (.aload_n 1, 1) := dk_43 (dk_at dksX3_be_7 15 rfl rfl)
theorem dX3_be_180 : decode cX3_be 180 = .ok (.getfield 88, 3) := dk_180 0 88 (dk_at dksX3_be_7 16 rfl rfl)
theorem dX3_be_183 : decode cX3_be 183 = .ok (.putfield 88, 3) := dk_181 0 88 (dk_at dksX3_be_7 19 rfl rfl)
theorem dX3_be_186 : decode cX3_be 186 = .ok (.aload_n 0, 1) := dk_42 (dk_at dksX3_be_7 22 rfl rfl)
theorem dX3_be_187 : decode cX3_be 187 = .ok (.aload_n 1, 1) := dk_43 (dk_at dksX3_be_7 23 rfl rfl)
theorem dX3_be_188 : decode cX3_be 188 = .ok (.getfield 91, 3) := dk_180 0 91 (dk_at dksX3_be_8 0 rfl rfl)
theorem dX3_be_191 : decode cX3_be 191 = .ok (.putfield 91, 3) := dk_181 0 91 (dk_at dksX3_be_8 3 rfl rfl)
theorem dX3_be_194 : decode cX3_be 194 = .ok (.aload_n 0, 1) := dk_42 (dk_at dksX3_be_8 6 rfl rfl)
theorem dX3_be_195 : decode cX3_be 195 = .ok (.aload_n 1, 1) := dk_43 (dk_at dksX3_be_8 7 rfl rfl)
theorem dX3_be_196 : decode cX3_be 196 = .ok (.getfield 56, 3) := dk_180 0 56 (dk_at dksX3_be_8 8 rfl rfl)
theorem dX3_be_199 : decode cX3_be 199 = .ok (.putfield 56, 3) := dk_181 0 56 (dk_at dksX3_be_8 11 rfl rfl)
theorem dX3_be_202 : decode cX3_be 202 = .ok (.aload_n 0, 1) := dk_42 (dk_at dksX3_be_8 14 rfl rfl)
theorem dX3_be_203 : decode cX3_be 203 = .ok (.aload_n 1, 1) := dk_43 (dk_at dksX3_be_8 15 rfl rfl)
theorem dX3_be_204 : decode cX3_be 204 = .ok (.getfield 94, 3) := dk_180 0 94 (dk_at dksX3_be_8 16 rfl rfl)
theorem dX3_be_207 : decode cX3_be 207 = .ok (.putfield 94, 3) := dk_181 0 94 (dk_at dksX3_be_8 19 rfl rfl)
theorem dX3_be_210 : decode cX3_be 210 = .ok (.return_, 1) := dk_177 (dk_at dksX3_be_8 22 rfl rfl)
abbrev cX3_stepsBare : ByteArray := prog_13_method_14_code
def yX3_stepsBare : MethodName := ⟨RX3, "stepsBare", "(LGuestView$Guest;)V"⟩
def dkwX3_stepsBare_3 : List UInt8 := [182, 0, 168, 177]
abbrev dktX3_stepsBare_3 : List UInt8 := dkwX3_stepsBare_3 ++ []
def dkwX3_stepsBare_2 : List UInt8 := [181, 0, 159, 43, 180, 0, 145, 42, 180, 0, 11, 28, 50, 182, 0, 162, 43, 182, 0, 165, 43, 4]
abbrev dktX3_stepsBare_2 : List UInt8 := dkwX3_stepsBare_2 ++ dktX3_stepsBare_3
def dkwX3_stepsBare_1 : List UInt8 := [182, 0, 149, 153, 0, 14, 43, 42, 180, 0, 82, 182, 0, 155, 167, 0, 28, 43, 180, 0, 145, 3]
abbrev dktX3_stepsBare_1 : List UInt8 := dkwX3_stepsBare_1 ++ dktX3_stepsBare_2
def dkwX3_stepsBare_0 : List UInt8 := [42, 43, 182, 0, 141, 61, 28, 2, 160, 0, 4, 177, 43, 180, 0, 145, 42, 180, 0, 11, 28, 50]
abbrev dktX3_stepsBare_0 : List UInt8 := dkwX3_stepsBare_0 ++ dktX3_stepsBare_1
theorem dksX3_stepsBare_0 : cX3_stepsBare.data.toList.drop 0 = dktX3_stepsBare_0 := by decide +kernel
theorem dksX3_stepsBare_1 : cX3_stepsBare.data.toList.drop 22 = dktX3_stepsBare_1 := dk_seg dksX3_stepsBare_0 22 rfl rfl
theorem dksX3_stepsBare_2 : cX3_stepsBare.data.toList.drop 44 = dktX3_stepsBare_2 := dk_seg dksX3_stepsBare_1 22 rfl rfl
theorem dksX3_stepsBare_3 : cX3_stepsBare.data.toList.drop 66 = dktX3_stepsBare_3 := dk_seg dksX3_stepsBare_2 22 rfl rfl
theorem dX3_stepsBare_0 : decode cX3_stepsBare 0 = .ok (.aload_n 0, 1) := dk_42 (dk_at dksX3_stepsBare_0 0 rfl rfl)
theorem dX3_stepsBare_1 : decode cX3_stepsBare 1 = .ok (.aload_n 1, 1) := dk_43 (dk_at dksX3_stepsBare_0 1 rfl rfl)
theorem dX3_stepsBare_2 : decode cX3_stepsBare 2 = .ok (.invokevirtual 141, 3) := dk_182 0 141 (dk_at dksX3_stepsBare_0 2 rfl rfl)
theorem dX3_stepsBare_5 : decode cX3_stepsBare 5 = .ok (.istore_n 2, 1) := dk_61 (dk_at dksX3_stepsBare_0 5 rfl rfl)
theorem dX3_stepsBare_6 : decode cX3_stepsBare 6 = .ok (.iload_n 2, 1) := dk_28 (dk_at dksX3_stepsBare_0 6 rfl rfl)
theorem dX3_stepsBare_7 : decode cX3_stepsBare 7 = .ok (.iconst (-1), 1) := dk_2 (dk_at dksX3_stepsBare_0 7 rfl rfl)
theorem dX3_stepsBare_8 : decode cX3_stepsBare 8 = .ok (.if_icmp .ne 4, 3) := dk_160 0 4 (dk_at dksX3_stepsBare_0 8 rfl rfl)
theorem dX3_stepsBare_11 : decode cX3_stepsBare 11 = .ok (.return_, 1) := dk_177 (dk_at dksX3_stepsBare_0 11 rfl rfl)
theorem dX3_stepsBare_12 : decode cX3_stepsBare 12 = .ok (.aload_n 1, 1) := dk_43 (dk_at dksX3_stepsBare_0 12 rfl rfl)
theorem dX3_stepsBare_13 : decode cX3_stepsBare 13 = .ok (.getfield 145, 3) := dk_180 0 145 (dk_at dksX3_stepsBare_0 13 rfl rfl)
theorem dX3_stepsBare_16 : decode cX3_stepsBare 16 = .ok (.aload_n 0, 1) := dk_42 (dk_at dksX3_stepsBare_0 16 rfl rfl)
theorem dX3_stepsBare_17 : decode cX3_stepsBare 17 = .ok (.getfield 11, 3) := dk_180 0 11 (dk_at dksX3_stepsBare_0 17 rfl rfl)
theorem dX3_stepsBare_20 : decode cX3_stepsBare 20 = .ok (.iload_n 2, 1) := dk_28 (dk_at dksX3_stepsBare_0 20 rfl rfl)
theorem dX3_stepsBare_21 : decode cX3_stepsBare 21 = .ok (.aaload, 1) := dk_50 (dk_at dksX3_stepsBare_0 21 rfl rfl)
theorem dX3_stepsBare_22 : decode cX3_stepsBare 22 = .ok (.invokevirtual 149, 3) := dk_182 0 149 (dk_at dksX3_stepsBare_1 0 rfl rfl)
theorem dX3_stepsBare_25 : decode cX3_stepsBare 25 = .ok (.ifCond .eq 14, 3) := dk_153 0 14 (dk_at dksX3_stepsBare_1 3 rfl rfl)
theorem dX3_stepsBare_28 : decode cX3_stepsBare 28 = .ok (.aload_n 1, 1) := dk_43 (dk_at dksX3_stepsBare_1 6 rfl rfl)
theorem dX3_stepsBare_29 : decode cX3_stepsBare 29 = .ok (.aload_n 0, 1) := dk_42 (dk_at dksX3_stepsBare_1 7 rfl rfl)
theorem dX3_stepsBare_30 : decode cX3_stepsBare 30 = .ok (.getfield 82, 3) := dk_180 0 82 (dk_at dksX3_stepsBare_1 8 rfl rfl)
theorem dX3_stepsBare_33 : decode cX3_stepsBare 33 = .ok (.invokevirtual 155, 3) := dk_182 0 155 (dk_at dksX3_stepsBare_1 11 rfl rfl)
theorem dX3_stepsBare_36 : decode cX3_stepsBare 36 = .ok (.goto 28, 3) := dk_167 0 28 (dk_at dksX3_stepsBare_1 14 rfl rfl)
theorem dX3_stepsBare_39 : decode cX3_stepsBare 39 = .ok (.aload_n 1, 1) := dk_43 (dk_at dksX3_stepsBare_1 17 rfl rfl)
theorem dX3_stepsBare_40 : decode cX3_stepsBare 40 = .ok (.getfield 145, 3) := dk_180 0 145 (dk_at dksX3_stepsBare_1 18 rfl rfl)
theorem dX3_stepsBare_43 : decode cX3_stepsBare 43 = .ok (.iconst 0, 1) := dk_3 (dk_at dksX3_stepsBare_1 21 rfl rfl)
theorem dX3_stepsBare_44 : decode cX3_stepsBare 44 = .ok (.putfield 159, 3) := dk_181 0 159 (dk_at dksX3_stepsBare_2 0 rfl rfl)
theorem dX3_stepsBare_47 : decode cX3_stepsBare 47 = .ok (.aload_n 1, 1) := dk_43 (dk_at dksX3_stepsBare_2 3 rfl rfl)
theorem dX3_stepsBare_48 : decode cX3_stepsBare 48 = .ok (.getfield 145, 3) := dk_180 0 145 (dk_at dksX3_stepsBare_2 4 rfl rfl)
theorem dX3_stepsBare_51 : decode cX3_stepsBare 51 = .ok (.aload_n 0, 1) := dk_42 (dk_at dksX3_stepsBare_2 7 rfl rfl)
theorem dX3_stepsBare_52 : decode cX3_stepsBare 52 = .ok (.getfield 11, 3) := dk_180 0 11 (dk_at dksX3_stepsBare_2 8 rfl rfl)
theorem dX3_stepsBare_55 : decode cX3_stepsBare 55 = .ok (.iload_n 2, 1) := dk_28 (dk_at dksX3_stepsBare_2 11 rfl rfl)
theorem dX3_stepsBare_56 : decode cX3_stepsBare 56 = .ok (.aaload, 1) := dk_50 (dk_at dksX3_stepsBare_2 12 rfl rfl)
theorem dX3_stepsBare_57 : decode cX3_stepsBare 57 = .ok (.invokevirtual 162, 3) := dk_182 0 162 (dk_at dksX3_stepsBare_2 13 rfl rfl)
theorem dX3_stepsBare_60 : decode cX3_stepsBare 60 = .ok (.aload_n 1, 1) := dk_43 (dk_at dksX3_stepsBare_2 16 rfl rfl)
theorem dX3_stepsBare_61 : decode cX3_stepsBare 61 = .ok (.invokevirtual 165, 3) := dk_182 0 165 (dk_at dksX3_stepsBare_2 17 rfl rfl)
theorem dX3_stepsBare_64 : decode cX3_stepsBare 64 = .ok (.aload_n 1, 1) := dk_43 (dk_at dksX3_stepsBare_2 20 rfl rfl)
theorem dX3_stepsBare_65 : decode cX3_stepsBare 65 = .ok (.iconst 1, 1) := dk_4 (dk_at dksX3_stepsBare_2 21 rfl rfl)
theorem dX3_stepsBare_66 : decode cX3_stepsBare 66 = .ok (.invokevirtual 168, 3) := dk_182 0 168 (dk_at dksX3_stepsBare_3 0 rfl rfl)
theorem dX3_stepsBare_69 : decode cX3_stepsBare 69 = .ok (.return_, 1) := dk_177 (dk_at dksX3_stepsBare_3 3 rfl rfl)
abbrev cX3_opAt : ByteArray := prog_13_method_13_code
def yX3_opAt : MethodName := ⟨RX3, "opAt", "(LGuestView$Guest;)I"⟩
def dkwX3_opAt_1 : List UInt8 := [172]
abbrev dktX3_opAt_1 : List UInt8 := dkwX3_opAt_1 ++ []
def dkwX3_opAt_0 : List UInt8 := [43, 180, 0, 138, 42, 180, 0, 76, 162, 0, 15, 42, 180, 0, 30, 43, 180, 0, 138, 46, 167, 0, 4, 2]
abbrev dktX3_opAt_0 : List UInt8 := dkwX3_opAt_0 ++ dktX3_opAt_1
theorem dksX3_opAt_0 : cX3_opAt.data.toList.drop 0 = dktX3_opAt_0 := by decide +kernel
theorem dksX3_opAt_1 : cX3_opAt.data.toList.drop 24 = dktX3_opAt_1 := dk_seg dksX3_opAt_0 24 rfl rfl
theorem dX3_opAt_0 : decode cX3_opAt 0 = .ok (.aload_n 1, 1) := dk_43 (dk_at dksX3_opAt_0 0 rfl rfl)
theorem dX3_opAt_1 : decode cX3_opAt 1 = .ok (.getfield 138, 3) := dk_180 0 138 (dk_at dksX3_opAt_0 1 rfl rfl)
theorem dX3_opAt_4 : decode cX3_opAt 4 = .ok (.aload_n 0, 1) := dk_42 (dk_at dksX3_opAt_0 4 rfl rfl)
theorem dX3_opAt_5 : decode cX3_opAt 5 = .ok (.getfield 76, 3) := dk_180 0 76 (dk_at dksX3_opAt_0 5 rfl rfl)
theorem dX3_opAt_8 : decode cX3_opAt 8 = .ok (.if_icmp .ge 15, 3) := dk_162 0 15 (dk_at dksX3_opAt_0 8 rfl rfl)
theorem dX3_opAt_11 : decode cX3_opAt 11 = .ok (.aload_n 0, 1) := dk_42 (dk_at dksX3_opAt_0 11 rfl rfl)
theorem dX3_opAt_12 : decode cX3_opAt 12 = .ok (.getfield 30, 3) := dk_180 0 30 (dk_at dksX3_opAt_0 12 rfl rfl)
theorem dX3_opAt_15 : decode cX3_opAt 15 = .ok (.aload_n 1, 1) := dk_43 (dk_at dksX3_opAt_0 15 rfl rfl)
theorem dX3_opAt_16 : decode cX3_opAt 16 = .ok (.getfield 138, 3) := dk_180 0 138 (dk_at dksX3_opAt_0 16 rfl rfl)
theorem dX3_opAt_19 : decode cX3_opAt 19 = .ok (.iaload, 1) := dk_46 (dk_at dksX3_opAt_0 19 rfl rfl)
theorem dX3_opAt_20 : decode cX3_opAt 20 = .ok (.goto 4, 3) := dk_167 0 4 (dk_at dksX3_opAt_0 20 rfl rfl)
theorem dX3_opAt_23 : decode cX3_opAt 23 = .ok (.iconst (-1), 1) := dk_2 (dk_at dksX3_opAt_0 23 rfl rfl)
theorem dX3_opAt_24 : decode cX3_opAt 24 = .ok (.ireturn, 1) := dk_172 (dk_at dksX3_opAt_1 0 rfl rfl)
abbrev cX3_stepsHosted : ByteArray := prog_13_method_16_code
def yX3_stepsHosted : MethodName := ⟨RX3, "stepsHosted", "(LGuestView$Guest;)I"⟩
def dkwX3_stepsHosted_5 : List UInt8 := [43, 182, 0, 165, 43, 4, 182, 0, 168, 21, 4, 153, 0, 7, 5, 167, 0, 4, 8, 172]
abbrev dktX3_stepsHosted_5 : List UInt8 := dkwX3_stepsHosted_5 ++ []
def dkwX3_stepsHosted_4 : List UInt8 := [182, 0, 165, 43, 4, 42, 28, 182, 0, 178, 96, 182, 0, 168, 4, 172, 42, 43, 45, 182, 0, 181, 54, 4]
abbrev dktX3_stepsHosted_4 : List UInt8 := dkwX3_stepsHosted_4 ++ dktX3_stepsHosted_5
def dkwX3_stepsHosted_3 : List UInt8 := [153, 0, 39, 43, 180, 0, 145, 43, 180, 0, 177, 181, 0, 159, 43, 180, 0, 145, 45, 182, 0, 162, 43]
abbrev dktX3_stepsHosted_3 : List UInt8 := dkwX3_stepsHosted_3 ++ dktX3_stepsHosted_4
def dkwX3_stepsHosted_2 : List UInt8 := [43, 4, 42, 28, 182, 0, 178, 96, 182, 0, 168, 3, 172, 45, 180, 0, 111, 154, 0, 10, 45, 180, 0, 115]
abbrev dktX3_stepsHosted_2 : List UInt8 := dkwX3_stepsHosted_2 ++ dktX3_stepsHosted_3
def dkwX3_stepsHosted_1 : List UInt8 := [180, 0, 111, 153, 0, 34, 43, 180, 0, 145, 180, 0, 171, 154, 0, 24, 43, 42, 180, 0, 82, 182, 0, 155]
abbrev dktX3_stepsHosted_1 : List UInt8 := dkwX3_stepsHosted_1 ++ dktX3_stepsHosted_2
def dkwX3_stepsHosted_0 : List UInt8 := [42, 43, 182, 0, 141, 61, 28, 2, 160, 0, 6, 16, 6, 172, 42, 180, 0, 11, 28, 50, 78, 45]
abbrev dktX3_stepsHosted_0 : List UInt8 := dkwX3_stepsHosted_0 ++ dktX3_stepsHosted_1
theorem dksX3_stepsHosted_0 : cX3_stepsHosted.data.toList.drop 0 = dktX3_stepsHosted_0 := by decide +kernel
theorem dksX3_stepsHosted_1 : cX3_stepsHosted.data.toList.drop 22 = dktX3_stepsHosted_1 := dk_seg dksX3_stepsHosted_0 22 rfl rfl
theorem dksX3_stepsHosted_2 : cX3_stepsHosted.data.toList.drop 46 = dktX3_stepsHosted_2 := dk_seg dksX3_stepsHosted_1 24 rfl rfl
theorem dksX3_stepsHosted_3 : cX3_stepsHosted.data.toList.drop 70 = dktX3_stepsHosted_3 := dk_seg dksX3_stepsHosted_2 24 rfl rfl
theorem dksX3_stepsHosted_4 : cX3_stepsHosted.data.toList.drop 93 = dktX3_stepsHosted_4 := dk_seg dksX3_stepsHosted_3 23 rfl rfl
theorem dksX3_stepsHosted_5 : cX3_stepsHosted.data.toList.drop 117 = dktX3_stepsHosted_5 := dk_seg dksX3_stepsHosted_4 24 rfl rfl
theorem dX3_stepsHosted_0 : decode cX3_stepsHosted 0 = .ok (.aload_n 0, 1) := dk_42 (dk_at dksX3_stepsHosted_0 0 rfl rfl)
theorem dX3_stepsHosted_1 : decode cX3_stepsHosted 1 = .ok (.aload_n 1, 1) := dk_43 (dk_at dksX3_stepsHosted_0 1 rfl rfl)
theorem dX3_stepsHosted_2 : decode cX3_stepsHosted 2 = .ok (.invokevirtual 141, 3) := dk_182 0 141 (dk_at dksX3_stepsHosted_0 2 rfl rfl)
theorem dX3_stepsHosted_5 : decode cX3_stepsHosted 5 = .ok (.istore_n 2, 1) := dk_61 (dk_at dksX3_stepsHosted_0 5 rfl rfl)
theorem dX3_stepsHosted_6 : decode cX3_stepsHosted 6 = .ok (.iload_n 2, 1) := dk_28 (dk_at dksX3_stepsHosted_0 6 rfl rfl)
theorem dX3_stepsHosted_7 : decode cX3_stepsHosted 7 = .ok (.iconst (-1), 1) := dk_2 (dk_at dksX3_stepsHosted_0 7 rfl rfl)
theorem dX3_stepsHosted_8 : decode cX3_stepsHosted 8 = .ok (.if_icmp .ne 6, 3) := dk_160 0 6 (dk_at dksX3_stepsHosted_0 8 rfl rfl)
theorem dX3_stepsHosted_11 : decode cX3_stepsHosted 11 = .ok (.bipush 6, 2) := dk_16 6 (dk_at dksX3_stepsHosted_0 11 rfl rfl)
theorem dX3_stepsHosted_13 : decode cX3_stepsHosted 13 = .ok (.ireturn, 1) := dk_172 (dk_at dksX3_stepsHosted_0 13 rfl rfl)
theorem dX3_stepsHosted_14 : decode cX3_stepsHosted 14 = .ok (.aload_n 0, 1) := dk_42 (dk_at dksX3_stepsHosted_0 14 rfl rfl)
theorem dX3_stepsHosted_15 : decode cX3_stepsHosted 15 = .ok (.getfield 11, 3) := dk_180 0 11 (dk_at dksX3_stepsHosted_0 15 rfl rfl)
theorem dX3_stepsHosted_18 : decode cX3_stepsHosted 18 = .ok (.iload_n 2, 1) := dk_28 (dk_at dksX3_stepsHosted_0 18 rfl rfl)
theorem dX3_stepsHosted_19 : decode cX3_stepsHosted 19 = .ok (.aaload, 1) := dk_50 (dk_at dksX3_stepsHosted_0 19 rfl rfl)
theorem dX3_stepsHosted_20 : decode cX3_stepsHosted 20 = .ok (.astore_n 3, 1) := dk_78 (dk_at dksX3_stepsHosted_0 20 rfl rfl)
theorem dX3_stepsHosted_21 : decode cX3_stepsHosted 21 = .ok (.aload_n 3, 1) := dk_45 (dk_at dksX3_stepsHosted_0 21 rfl rfl)
theorem dX3_stepsHosted_22 : decode cX3_stepsHosted 22 = .ok (.getfield 111, 3) := dk_180 0 111 (dk_at dksX3_stepsHosted_1 0 rfl rfl)
theorem dX3_stepsHosted_25 : decode cX3_stepsHosted 25 = .ok (.ifCond .eq 34, 3) := dk_153 0 34 (dk_at dksX3_stepsHosted_1 3 rfl rfl)
theorem dX3_stepsHosted_28 : decode cX3_stepsHosted 28 = .ok (.aload_n 1, 1) := dk_43 (dk_at dksX3_stepsHosted_1 6 rfl rfl)
theorem dX3_stepsHosted_29 : decode cX3_stepsHosted 29 = .ok (.getfield 145, 3) := dk_180 0 145 (dk_at dksX3_stepsHosted_1 7 rfl rfl)
theorem dX3_stepsHosted_32 : decode cX3_stepsHosted 32 = .ok (.getfield 171, 3) := dk_180 0 171 (dk_at dksX3_stepsHosted_1 10 rfl rfl)
theorem dX3_stepsHosted_35 : decode cX3_stepsHosted 35 = .ok (.ifCond .ne 24, 3) := dk_154 0 24 (dk_at dksX3_stepsHosted_1 13 rfl rfl)
theorem dX3_stepsHosted_38 : decode cX3_stepsHosted 38 = .ok (.aload_n 1, 1) := dk_43 (dk_at dksX3_stepsHosted_1 16 rfl rfl)
theorem dX3_stepsHosted_39 : decode cX3_stepsHosted 39 = .ok (.aload_n 0, 1) := dk_42 (dk_at dksX3_stepsHosted_1 17 rfl rfl)
theorem dX3_stepsHosted_40 : decode cX3_stepsHosted 40 = .ok (.getfield 82, 3) := dk_180 0 82 (dk_at dksX3_stepsHosted_1 18 rfl rfl)
theorem dX3_stepsHosted_43 : decode cX3_stepsHosted 43 = .ok (.invokevirtual 155, 3) := dk_182 0 155 (dk_at dksX3_stepsHosted_1 21 rfl rfl)
theorem dX3_stepsHosted_46 : decode cX3_stepsHosted 46 = .ok (.aload_n 1, 1) := dk_43 (dk_at dksX3_stepsHosted_2 0 rfl rfl)
theorem dX3_stepsHosted_47 : decode cX3_stepsHosted 47 = .ok (.iconst 1, 1) := dk_4 (dk_at dksX3_stepsHosted_2 1 rfl rfl)
theorem dX3_stepsHosted_48 : decode cX3_stepsHosted 48 = .ok (.aload_n 0, 1) := dk_42 (dk_at dksX3_stepsHosted_2 2 rfl rfl)
theorem dX3_stepsHosted_49 : decode cX3_stepsHosted 49 = .ok (.iload_n 2, 1) := dk_28 (dk_at dksX3_stepsHosted_2 3 rfl rfl)
theorem dX3_stepsHosted_50 : decode cX3_stepsHosted 50 = .ok (.invokevirtual 178, 3) := dk_182 0 178 (dk_at dksX3_stepsHosted_2 4 rfl rfl)
theorem dX3_stepsHosted_53 : decode cX3_stepsHosted 53 = .ok (.iadd, 1) := dk_96 (dk_at dksX3_stepsHosted_2 7 rfl rfl)
theorem dX3_stepsHosted_54 : decode cX3_stepsHosted 54 = .ok (.invokevirtual 168, 3) := dk_182 0 168 (dk_at dksX3_stepsHosted_2 8 rfl rfl)
theorem dX3_stepsHosted_57 : decode cX3_stepsHosted 57 = .ok (.iconst 0, 1) := dk_3 (dk_at dksX3_stepsHosted_2 11 rfl rfl)
theorem dX3_stepsHosted_58 : decode cX3_stepsHosted 58 = .ok (.ireturn, 1) := dk_172 (dk_at dksX3_stepsHosted_2 12 rfl rfl)
theorem dX3_stepsHosted_59 : decode cX3_stepsHosted 59 = .ok (.aload_n 3, 1) := dk_45 (dk_at dksX3_stepsHosted_2 13 rfl rfl)
theorem dX3_stepsHosted_60 : decode cX3_stepsHosted 60 = .ok (.getfield 111, 3) := dk_180 0 111 (dk_at dksX3_stepsHosted_2 14 rfl rfl)
theorem dX3_stepsHosted_63 : decode cX3_stepsHosted 63 = .ok (.ifCond .ne 10, 3) := dk_154 0 10 (dk_at dksX3_stepsHosted_2 17 rfl rfl)
theorem dX3_stepsHosted_66 : decode cX3_stepsHosted 66 = .ok (.aload_n 3, 1) := dk_45 (dk_at dksX3_stepsHosted_2 20 rfl rfl)
theorem dX3_stepsHosted_67 : decode cX3_stepsHosted 67 = .ok (.getfield 115, 3) := dk_180 0 115 (dk_at dksX3_stepsHosted_2 21 rfl rfl)
theorem dX3_stepsHosted_70 : decode cX3_stepsHosted 70 = .ok (.ifCond .eq 39, 3) := dk_153 0 39 (dk_at dksX3_stepsHosted_3 0 rfl rfl)
theorem dX3_stepsHosted_73 : decode cX3_stepsHosted 73 = .ok (.aload_n 1, 1) := dk_43 (dk_at dksX3_stepsHosted_3 3 rfl rfl)
theorem dX3_stepsHosted_74 : decode cX3_stepsHosted 74 = .ok (.getfield 145, 3) := dk_180 0 145 (dk_at dksX3_stepsHosted_3 4 rfl rfl)
theorem dX3_stepsHosted_77 : decode cX3_stepsHosted 77 = .ok (.aload_n 1, 1) := dk_43 (dk_at dksX3_stepsHosted_3 7 rfl rfl)
theorem dX3_stepsHosted_78 : decode cX3_stepsHosted 78 = .ok (.getfield 177, 3) := dk_180 0 177 (dk_at dksX3_stepsHosted_3 8 rfl rfl)
theorem dX3_stepsHosted_81 : decode cX3_stepsHosted 81 = .ok (.putfield 159, 3) := dk_181 0 159 (dk_at dksX3_stepsHosted_3 11 rfl rfl)
theorem dX3_stepsHosted_84 : decode cX3_stepsHosted 84 = .ok (.aload_n 1, 1) := dk_43 (dk_at dksX3_stepsHosted_3 14 rfl rfl)
theorem dX3_stepsHosted_85 : decode cX3_stepsHosted 85 = .ok (.getfield 145, 3) := dk_180 0 145 (dk_at dksX3_stepsHosted_3 15 rfl rfl)
theorem dX3_stepsHosted_88 : decode cX3_stepsHosted 88 = .ok (.aload_n 3, 1) := dk_45 (dk_at dksX3_stepsHosted_3 18 rfl rfl)
theorem dX3_stepsHosted_89 : decode cX3_stepsHosted 89 = .ok (.invokevirtual 162, 3) := dk_182 0 162 (dk_at dksX3_stepsHosted_3 19 rfl rfl)
theorem dX3_stepsHosted_92 : decode cX3_stepsHosted 92 = .ok (.aload_n 1, 1) := dk_43 (dk_at dksX3_stepsHosted_3 22 rfl rfl)
theorem dX3_stepsHosted_93 : decode cX3_stepsHosted 93 = .ok (.invokevirtual 165, 3) := dk_182 0 165 (dk_at dksX3_stepsHosted_4 0 rfl rfl)
theorem dX3_stepsHosted_96 : decode cX3_stepsHosted 96 = .ok (.aload_n 1, 1) := dk_43 (dk_at dksX3_stepsHosted_4 3 rfl rfl)
theorem dX3_stepsHosted_97 : decode cX3_stepsHosted 97 = .ok (.iconst 1, 1) := dk_4 (dk_at dksX3_stepsHosted_4 4 rfl rfl)
theorem dX3_stepsHosted_98 : decode cX3_stepsHosted 98 = .ok (.aload_n 0, 1) := dk_42 (dk_at dksX3_stepsHosted_4 5 rfl rfl)
theorem dX3_stepsHosted_99 : decode cX3_stepsHosted 99 = .ok (.iload_n 2, 1) := dk_28 (dk_at dksX3_stepsHosted_4 6 rfl rfl)
theorem dX3_stepsHosted_100 : decode cX3_stepsHosted 100 = .ok (.invokevirtual 178, 3) := dk_182 0 178 (dk_at dksX3_stepsHosted_4 7 rfl rfl)
theorem dX3_stepsHosted_103 : decode cX3_stepsHosted 103 = .ok (.iadd, 1) := dk_96 (dk_at dksX3_stepsHosted_4 10 rfl rfl)
theorem dX3_stepsHosted_104 : decode cX3_stepsHosted 104 = .ok (.invokevirtual 168, 3) := dk_182 0 168 (dk_at dksX3_stepsHosted_4 11 rfl rfl)
theorem dX3_stepsHosted_107 : decode cX3_stepsHosted 107 = .ok (.iconst 1, 1) := dk_4 (dk_at dksX3_stepsHosted_4 14 rfl rfl)
theorem dX3_stepsHosted_108 : decode cX3_stepsHosted 108 = .ok (.ireturn, 1) := dk_172 (dk_at dksX3_stepsHosted_4 15 rfl rfl)
theorem dX3_stepsHosted_109 : decode cX3_stepsHosted 109 = .ok (.aload_n 0, 1) := dk_42 (dk_at dksX3_stepsHosted_4 16 rfl rfl)
theorem dX3_stepsHosted_110 : decode cX3_stepsHosted 110 = .ok (.aload_n 1, 1) := dk_43 (dk_at dksX3_stepsHosted_4 17 rfl rfl)
theorem dX3_stepsHosted_111 : decode cX3_stepsHosted 111 = .ok (.aload_n 3, 1) := dk_45 (dk_at dksX3_stepsHosted_4 18 rfl rfl)
theorem dX3_stepsHosted_112 : decode cX3_stepsHosted 112 = .ok (.invokevirtual 181, 3) := dk_182 0 181 (dk_at dksX3_stepsHosted_4 19 rfl rfl)
theorem dX3_stepsHosted_115 : decode cX3_stepsHosted 115 = .ok (.istore 4, 2) := dk_54 4 (dk_at dksX3_stepsHosted_4 22 rfl rfl)
theorem dX3_stepsHosted_117 : decode cX3_stepsHosted 117 = .ok (.aload_n 1, 1) := dk_43 (dk_at dksX3_stepsHosted_5 0 rfl rfl)
theorem dX3_stepsHosted_118 : decode cX3_stepsHosted 118 = .ok (.invokevirtual 165, 3) := dk_182 0 165 (dk_at dksX3_stepsHosted_5 1 rfl rfl)
theorem dX3_stepsHosted_121 : decode cX3_stepsHosted 121 = .ok (.aload_n 1, 1) := dk_43 (dk_at dksX3_stepsHosted_5 4 rfl rfl)
theorem dX3_stepsHosted_122 : decode cX3_stepsHosted 122 = .ok (.iconst 1, 1) := dk_4 (dk_at dksX3_stepsHosted_5 5 rfl rfl)
theorem dX3_stepsHosted_123 : decode cX3_stepsHosted 123 = .ok (.invokevirtual 168, 3) := dk_182 0 168 (dk_at dksX3_stepsHosted_5 6 rfl rfl)
theorem dX3_stepsHosted_126 : decode cX3_stepsHosted 126 = .ok (.iload 4, 2) := dk_21 4 (dk_at dksX3_stepsHosted_5 9 rfl rfl)
theorem dX3_stepsHosted_128 : decode cX3_stepsHosted 128 = .ok (.ifCond .eq 7, 3) := dk_153 0 7 (dk_at dksX3_stepsHosted_5 11 rfl rfl)
theorem dX3_stepsHosted_131 : decode cX3_stepsHosted 131 = .ok (.iconst 2, 1) := dk_5 (dk_at dksX3_stepsHosted_5 14 rfl rfl)
theorem dX3_stepsHosted_132 : decode cX3_stepsHosted 132 = .ok (.goto 4, 3) := dk_167 0 4 (dk_at dksX3_stepsHosted_5 15 rfl rfl)
theorem dX3_stepsHosted_135 : decode cX3_stepsHosted 135 = .ok (.iconst 5, 1) := dk_8 (dk_at dksX3_stepsHosted_5 18 rfl rfl)
theorem dX3_stepsHosted_136 : decode cX3_stepsHosted 136 = .ok (.ireturn, 1) := dk_172 (dk_at dksX3_stepsHosted_5 19 rfl rfl)
abbrev cX3_emulation : ByteArray := prog_13_method_7_code
def yX3_emulation : MethodName := ⟨RX3, "emulation", "(I)I"⟩
def dkwX3_emulation_0 : List UInt8 := [42, 180, 0, 53, 42, 3, 27, 182, 0, 126, 96, 172]
abbrev dktX3_emulation_0 : List UInt8 := dkwX3_emulation_0 ++ []
theorem dksX3_emulation_0 : cX3_emulation.data.toList.drop 0 = dktX3_emulation_0 := by decide +kernel
theorem dX3_emulation_0 : decode cX3_emulation 0 = .ok (.aload_n 0, 1) := dk_42 (dk_at dksX3_emulation_0 0 rfl rfl)
theorem dX3_emulation_1 : decode cX3_emulation 1 = .ok (.getfield 53, 3) := dk_180 0 53 (dk_at dksX3_emulation_0 1 rfl rfl)
theorem dX3_emulation_4 : decode cX3_emulation 4 = .ok (.aload_n 0, 1) := dk_42 (dk_at dksX3_emulation_0 4 rfl rfl)
theorem dX3_emulation_5 : decode cX3_emulation 5 = .ok (.iconst 0, 1) := dk_3 (dk_at dksX3_emulation_0 5 rfl rfl)
theorem dX3_emulation_6 : decode cX3_emulation 6 = .ok (.iload_n 1, 1) := dk_27 (dk_at dksX3_emulation_0 6 rfl rfl)
theorem dX3_emulation_7 : decode cX3_emulation 7 = .ok (.invokevirtual 126, 3) := dk_182 0 126 (dk_at dksX3_emulation_0 7 rfl rfl)
theorem dX3_emulation_10 : decode cX3_emulation 10 = .ok (.iadd, 1) := dk_96 (dk_at dksX3_emulation_0 10 rfl rfl)
theorem dX3_emulation_11 : decode cX3_emulation 11 = .ok (.ireturn, 1) := dk_172 (dk_at dksX3_emulation_0 11 rfl rfl)
abbrev cX3_sum : ByteArray := prog_13_method_6_code
def yX3_sum : MethodName := ⟨RX3, "sum", "(II)I"⟩
def dkwX3_sum_7 : List UInt8 := [54, 4, 132, 5, 1, 167, 255, 224, 21, 4, 172]
abbrev dktX3_sum_7 : List UInt8 := dkwX3_sum_7 ++ []
def dkwX3_sum_6 : List UInt8 := [180, 0, 46, 162, 0, 29, 21, 4, 42, 180, 0, 19, 21, 5, 50, 27, 42, 180, 0, 23, 182, 0, 122, 96]
abbrev dktX3_sum_6 : List UInt8 := dkwX3_sum_6 ++ dktX3_sum_7
def dkwX3_sum_5 : List UInt8 := [45, 182, 0, 118, 153, 0, 7, 4, 167, 0, 4, 3, 79, 3, 54, 4, 3, 54, 5, 21, 5, 42]
abbrev dktX3_sum_5 : List UInt8 := dkwX3_sum_5 ++ dktX3_sum_6
def dkwX3_sum_4 : List UInt8 := [180, 0, 23, 16, 8, 45, 180, 0, 115, 153, 0, 7, 4, 167, 0, 4, 3, 79, 42, 180, 0, 23, 16, 9]
abbrev dktX3_sum_4 : List UInt8 := dkwX3_sum_4 ++ dktX3_sum_5
def dkwX3_sum_3 : List UInt8 := [182, 0, 107, 79, 42, 180, 0, 23, 16, 7, 45, 180, 0, 111, 153, 0, 7, 4, 167, 0, 4, 3, 79, 42]
abbrev dktX3_sum_3 : List UInt8 := dkwX3_sum_3 ++ dktX3_sum_4
def dkwX3_sum_2 : List UInt8 := [153, 0, 7, 4, 167, 0, 4, 3, 79, 132, 4, 1, 167, 255, 224, 42, 180, 0, 23, 16, 6, 42, 28]
abbrev dktX3_sum_2 : List UInt8 := dkwX3_sum_2 ++ dktX3_sum_3
def dkwX3_sum_1 : List UInt8 := [3, 54, 4, 21, 4, 7, 162, 0, 32, 42, 180, 0, 23, 5, 21, 4, 96, 45, 21, 4, 182, 0, 103]
abbrev dktX3_sum_1 : List UInt8 := dkwX3_sum_1 ++ dktX3_sum_2
def dkwX3_sum_0 : List UInt8 := [42, 180, 0, 11, 28, 50, 78, 42, 180, 0, 23, 3, 28, 79, 42, 180, 0, 23, 4, 45, 180, 0, 102, 79]
abbrev dktX3_sum_0 : List UInt8 := dkwX3_sum_0 ++ dktX3_sum_1
theorem dksX3_sum_0 : cX3_sum.data.toList.drop 0 = dktX3_sum_0 := by decide +kernel
theorem dksX3_sum_1 : cX3_sum.data.toList.drop 24 = dktX3_sum_1 := dk_seg dksX3_sum_0 24 rfl rfl
theorem dksX3_sum_2 : cX3_sum.data.toList.drop 47 = dktX3_sum_2 := dk_seg dksX3_sum_1 23 rfl rfl
theorem dksX3_sum_3 : cX3_sum.data.toList.drop 70 = dktX3_sum_3 := dk_seg dksX3_sum_2 23 rfl rfl
theorem dksX3_sum_4 : cX3_sum.data.toList.drop 94 = dktX3_sum_4 := dk_seg dksX3_sum_3 24 rfl rfl
theorem dksX3_sum_5 : cX3_sum.data.toList.drop 118 = dktX3_sum_5 := dk_seg dksX3_sum_4 24 rfl rfl
theorem dksX3_sum_6 : cX3_sum.data.toList.drop 140 = dktX3_sum_6 := dk_seg dksX3_sum_5 22 rfl rfl
theorem dksX3_sum_7 : cX3_sum.data.toList.drop 164 = dktX3_sum_7 := dk_seg dksX3_sum_6 24 rfl rfl
theorem dX3_sum_0 : decode cX3_sum 0 = .ok (.aload_n 0, 1) := dk_42 (dk_at dksX3_sum_0 0 rfl rfl)
theorem dX3_sum_1 : decode cX3_sum 1 = .ok (.getfield 11, 3) := dk_180 0 11 (dk_at dksX3_sum_0 1 rfl rfl)
theorem dX3_sum_4 : decode cX3_sum 4 = .ok (.iload_n 2, 1) := dk_28 (dk_at dksX3_sum_0 4 rfl rfl)
theorem dX3_sum_5 : decode cX3_sum 5 = .ok (.aaload, 1) := dk_50 (dk_at dksX3_sum_0 5 rfl rfl)
theorem dX3_sum_6 : decode cX3_sum 6 = .ok (.astore_n 3, 1) := dk_78 (dk_at dksX3_sum_0 6 rfl rfl)
theorem dX3_sum_7 : decode cX3_sum 7 = .ok (.aload_n 0, 1) := dk_42 (dk_at dksX3_sum_0 7 rfl rfl)
theorem dX3_sum_8 : decode cX3_sum 8 = .ok (.getfield 23, 3) := dk_180 0 23 (dk_at dksX3_sum_0 8 rfl rfl)
theorem dX3_sum_11 : decode cX3_sum 11 = .ok (.iconst 0, 1) := dk_3 (dk_at dksX3_sum_0 11 rfl rfl)
theorem dX3_sum_12 : decode cX3_sum 12 = .ok (.iload_n 2, 1) := dk_28 (dk_at dksX3_sum_0 12 rfl rfl)
theorem dX3_sum_13 : decode cX3_sum 13 = .ok (.iastore, 1) := dk_79 (dk_at dksX3_sum_0 13 rfl rfl)
theorem dX3_sum_14 : decode cX3_sum 14 = .ok (.aload_n 0, 1) := dk_42 (dk_at dksX3_sum_0 14 rfl rfl)
theorem dX3_sum_15 : decode cX3_sum 15 = .ok (.getfield 23, 3) := dk_180 0 23 (dk_at dksX3_sum_0 15 rfl rfl)
theorem dX3_sum_18 : decode cX3_sum 18 = .ok (.iconst 1, 1) := dk_4 (dk_at dksX3_sum_0 18 rfl rfl)
theorem dX3_sum_19 : decode cX3_sum 19 = .ok (.aload_n 3, 1) := dk_45 (dk_at dksX3_sum_0 19 rfl rfl)
theorem dX3_sum_20 : decode cX3_sum 20 = .ok (.getfield 102, 3) := dk_180 0 102 (dk_at dksX3_sum_0 20 rfl rfl)
theorem dX3_sum_23 : decode cX3_sum 23 = .ok (.iastore, 1) := dk_79 (dk_at dksX3_sum_0 23 rfl rfl)
theorem dX3_sum_24 : decode cX3_sum 24 = .ok (.iconst 0, 1) := dk_3 (dk_at dksX3_sum_1 0 rfl rfl)
theorem dX3_sum_25 : decode cX3_sum 25 = .ok (.istore 4, 2) := dk_54 4 (dk_at dksX3_sum_1 1 rfl rfl)
theorem dX3_sum_27 : decode cX3_sum 27 = .ok (.iload 4, 2) := dk_21 4 (dk_at dksX3_sum_1 3 rfl rfl)
theorem dX3_sum_29 : decode cX3_sum 29 = .ok (.iconst 4, 1) := dk_7 (dk_at dksX3_sum_1 5 rfl rfl)
theorem dX3_sum_30 : decode cX3_sum 30 = .ok (.if_icmp .ge 32, 3) := dk_162 0 32 (dk_at dksX3_sum_1 6 rfl rfl)
theorem dX3_sum_33 : decode cX3_sum 33 = .ok (.aload_n 0, 1) := dk_42 (dk_at dksX3_sum_1 9 rfl rfl)
theorem dX3_sum_34 : decode cX3_sum 34 = .ok (.getfield 23, 3) := dk_180 0 23 (dk_at dksX3_sum_1 10 rfl rfl)
theorem dX3_sum_37 : decode cX3_sum 37 = .ok (.iconst 2, 1) := dk_5 (dk_at dksX3_sum_1 13 rfl rfl)
theorem dX3_sum_38 : decode cX3_sum 38 = .ok (.iload 4, 2) := dk_21 4 (dk_at dksX3_sum_1 14 rfl rfl)
theorem dX3_sum_40 : decode cX3_sum 40 = .ok (.iadd, 1) := dk_96 (dk_at dksX3_sum_1 16 rfl rfl)
theorem dX3_sum_41 : decode cX3_sum 41 = .ok (.aload_n 3, 1) := dk_45 (dk_at dksX3_sum_1 17 rfl rfl)
theorem dX3_sum_42 : decode cX3_sum 42 = .ok (.iload 4, 2) := dk_21 4 (dk_at dksX3_sum_1 18 rfl rfl)
theorem dX3_sum_44 : decode cX3_sum 44 = .ok (.invokevirtual 103, 3) := dk_182 0 103 (dk_at dksX3_sum_1 20 rfl rfl)
theorem dX3_sum_47 : decode cX3_sum 47 = .ok (.ifCond .eq 7, 3) := dk_153 0 7 (dk_at dksX3_sum_2 0 rfl rfl)
theorem dX3_sum_50 : decode cX3_sum 50 = .ok (.iconst 1, 1) := dk_4 (dk_at dksX3_sum_2 3 rfl rfl)
theorem dX3_sum_51 : decode cX3_sum 51 = .ok (.goto 4, 3) := dk_167 0 4 (dk_at dksX3_sum_2 4 rfl rfl)
theorem dX3_sum_54 : decode cX3_sum 54 = .ok (.iconst 0, 1) := dk_3 (dk_at dksX3_sum_2 7 rfl rfl)
theorem dX3_sum_55 : decode cX3_sum 55 = .ok (.iastore, 1) := dk_79 (dk_at dksX3_sum_2 8 rfl rfl)
theorem dX3_sum_56 : decode cX3_sum 56 = .ok (.iinc 4 1, 3) := dk_132 4 1 (dk_at dksX3_sum_2 9 rfl rfl)
theorem dX3_sum_59 : decode cX3_sum 59 = .ok (.goto (-32), 3) := dk_167 255 224 (dk_at dksX3_sum_2 12 rfl rfl)
theorem dX3_sum_62 : decode cX3_sum 62 = .ok (.aload_n 0, 1) := dk_42 (dk_at dksX3_sum_2 15 rfl rfl)
theorem dX3_sum_63 : decode cX3_sum 63 = .ok (.getfield 23, 3) := dk_180 0 23 (dk_at dksX3_sum_2 16 rfl rfl)
theorem dX3_sum_66 : decode cX3_sum 66 = .ok (.bipush 6, 2) := dk_16 6 (dk_at dksX3_sum_2 19 rfl rfl)
theorem dX3_sum_68 : decode cX3_sum 68 = .ok (.aload_n 0, 1) := dk_42 (dk_at dksX3_sum_2 21 rfl rfl)
theorem dX3_sum_69 : decode cX3_sum 69 = .ok (.iload_n 2, 1) := dk_28 (dk_at dksX3_sum_2 22 rfl rfl)
theorem dX3_sum_70 : decode cX3_sum 70 = .ok (.invokevirtual 107, 3) := dk_182 0 107 (dk_at dksX3_sum_3 0 rfl rfl)
theorem dX3_sum_73 : decode cX3_sum 73 = .ok (.iastore, 1) := dk_79 (dk_at dksX3_sum_3 3 rfl rfl)
theorem dX3_sum_74 : decode cX3_sum 74 = .ok (.aload_n 0, 1) := dk_42 (dk_at dksX3_sum_3 4 rfl rfl)
theorem dX3_sum_75 : decode cX3_sum 75 = .ok (.getfield 23, 3) := dk_180 0 23 (dk_at dksX3_sum_3 5 rfl rfl)
theorem dX3_sum_78 : decode cX3_sum 78 = .ok (.bipush 7, 2) := dk_16 7 (dk_at dksX3_sum_3 8 rfl rfl)
theorem dX3_sum_80 : decode cX3_sum 80 = .ok (.aload_n 3, 1) := dk_45 (dk_at dksX3_sum_3 10 rfl rfl)
theorem dX3_sum_81 : decode cX3_sum 81 = .ok (.getfield 111, 3) := dk_180 0 111 (dk_at dksX3_sum_3 11 rfl rfl)
theorem dX3_sum_84 : decode cX3_sum 84 = .ok (.ifCond .eq 7, 3) := dk_153 0 7 (dk_at dksX3_sum_3 14 rfl rfl)
theorem dX3_sum_87 : decode cX3_sum 87 = .ok (.iconst 1, 1) := dk_4 (dk_at dksX3_sum_3 17 rfl rfl)
theorem dX3_sum_88 : decode cX3_sum 88 = .ok (.goto 4, 3) := dk_167 0 4 (dk_at dksX3_sum_3 18 rfl rfl)
theorem dX3_sum_91 : decode cX3_sum 91 = .ok (.iconst 0, 1) := dk_3 (dk_at dksX3_sum_3 21 rfl rfl)
theorem dX3_sum_92 : decode cX3_sum 92 = .ok (.iastore, 1) := dk_79 (dk_at dksX3_sum_3 22 rfl rfl)
theorem dX3_sum_93 : decode cX3_sum 93 = .ok (.aload_n 0, 1) := dk_42 (dk_at dksX3_sum_3 23 rfl rfl)
theorem dX3_sum_94 : decode cX3_sum 94 = .ok (.getfield 23, 3) := dk_180 0 23 (dk_at dksX3_sum_4 0 rfl rfl)
theorem dX3_sum_97 : decode cX3_sum 97 = .ok (.bipush 8, 2) := dk_16 8 (dk_at dksX3_sum_4 3 rfl rfl)
theorem dX3_sum_99 : decode cX3_sum 99 = .ok (.aload_n 3, 1) := dk_45 (dk_at dksX3_sum_4 5 rfl rfl)
theorem dX3_sum_100 : decode cX3_sum 100 = .ok (.getfield 115, 3) := dk_180 0 115 (dk_at dksX3_sum_4 6 rfl rfl)
theorem dX3_sum_103 : decode cX3_sum 103 = .ok (.ifCond .eq 7, 3) := dk_153 0 7 (dk_at dksX3_sum_4 9 rfl rfl)
theorem dX3_sum_106 : decode cX3_sum 106 = .ok (.iconst 1, 1) := dk_4 (dk_at dksX3_sum_4 12 rfl rfl)
theorem dX3_sum_107 : decode cX3_sum 107 = .ok (.goto 4, 3) := dk_167 0 4 (dk_at dksX3_sum_4 13 rfl rfl)
theorem dX3_sum_110 : decode cX3_sum 110 = .ok (.iconst 0, 1) := dk_3 (dk_at dksX3_sum_4 16 rfl rfl)
theorem dX3_sum_111 : decode cX3_sum 111 = .ok (.iastore, 1) := dk_79 (dk_at dksX3_sum_4 17 rfl rfl)
theorem dX3_sum_112 : decode cX3_sum 112 = .ok (.aload_n 0, 1) := dk_42 (dk_at dksX3_sum_4 18 rfl rfl)
theorem dX3_sum_113 : decode cX3_sum 113 = .ok (.getfield 23, 3) := dk_180 0 23 (dk_at dksX3_sum_4 19 rfl rfl)
theorem dX3_sum_116 : decode cX3_sum 116 = .ok (.bipush 9, 2) := dk_16 9 (dk_at dksX3_sum_4 22 rfl rfl)
theorem dX3_sum_118 : decode cX3_sum 118 = .ok (.aload_n 3, 1) := dk_45 (dk_at dksX3_sum_5 0 rfl rfl)
theorem dX3_sum_119 : decode cX3_sum 119 = .ok (.invokevirtual 118, 3) := dk_182 0 118 (dk_at dksX3_sum_5 1 rfl rfl)
theorem dX3_sum_122 : decode cX3_sum 122 = .ok (.ifCond .eq 7, 3) := dk_153 0 7 (dk_at dksX3_sum_5 4 rfl rfl)
theorem dX3_sum_125 : decode cX3_sum 125 = .ok (.iconst 1, 1) := dk_4 (dk_at dksX3_sum_5 7 rfl rfl)
theorem dX3_sum_126 : decode cX3_sum 126 = .ok (.goto 4, 3) := dk_167 0 4 (dk_at dksX3_sum_5 8 rfl rfl)
theorem dX3_sum_129 : decode cX3_sum 129 = .ok (.iconst 0, 1) := dk_3 (dk_at dksX3_sum_5 11 rfl rfl)
theorem dX3_sum_130 : decode cX3_sum 130 = .ok (.iastore, 1) := dk_79 (dk_at dksX3_sum_5 12 rfl rfl)
theorem dX3_sum_131 : decode cX3_sum 131 = .ok (.iconst 0, 1) := dk_3 (dk_at dksX3_sum_5 13 rfl rfl)
theorem dX3_sum_132 : decode cX3_sum 132 = .ok (.istore 4, 2) := dk_54 4 (dk_at dksX3_sum_5 14 rfl rfl)
theorem dX3_sum_134 : decode cX3_sum 134 = .ok (.iconst 0, 1) := dk_3 (dk_at dksX3_sum_5 16 rfl rfl)
theorem dX3_sum_135 : decode cX3_sum 135 = .ok (.istore 5, 2) := dk_54 5 (dk_at dksX3_sum_5 17 rfl rfl)
theorem dX3_sum_137 : decode cX3_sum 137 = .ok (.iload 5, 2) := dk_21 5 (dk_at dksX3_sum_5 19 rfl rfl)
theorem dX3_sum_139 : decode cX3_sum 139 = .ok (.aload_n 0, 1) := dk_42 (dk_at dksX3_sum_5 21 rfl rfl)
theorem dX3_sum_140 : decode cX3_sum 140 = .ok (.getfield 46, 3) := dk_180 0 46 (dk_at dksX3_sum_6 0 rfl rfl)
theorem dX3_sum_143 : decode cX3_sum 143 = .ok (.if_icmp .ge 29, 3) := dk_162 0 29 (dk_at dksX3_sum_6 3 rfl rfl)
theorem dX3_sum_146 : decode cX3_sum 146 = .ok (.iload 4, 2) := dk_21 4 (dk_at dksX3_sum_6 6 rfl rfl)
theorem dX3_sum_148 : decode cX3_sum 148 = .ok (.aload_n 0, 1) := dk_42 (dk_at dksX3_sum_6 8 rfl rfl)
theorem dX3_sum_149 : decode cX3_sum 149 = .ok (.getfield 19, 3) := dk_180 0 19 (dk_at dksX3_sum_6 9 rfl rfl)
theorem dX3_sum_152 : decode cX3_sum 152 = .ok (.iload 5, 2) := dk_21 5 (dk_at dksX3_sum_6 12 rfl rfl)
theorem dX3_sum_154 : decode cX3_sum 154 = .ok (.aaload, 1) := dk_50 (dk_at dksX3_sum_6 14 rfl rfl)
theorem dX3_sum_155 : decode cX3_sum 155 = .ok (.iload_n 1, 1) := dk_27 (dk_at dksX3_sum_6 15 rfl rfl)
theorem dX3_sum_156 : decode cX3_sum 156 = .ok (.aload_n 0, 1) := dk_42 (dk_at dksX3_sum_6 16 rfl rfl)
theorem dX3_sum_157 : decode cX3_sum 157 = .ok (.getfield 23, 3) := dk_180 0 23 (dk_at dksX3_sum_6 17 rfl rfl)
theorem dX3_sum_160 : decode cX3_sum 160 = .ok (.invokevirtual 122, 3) := dk_182 0 122 (dk_at dksX3_sum_6 20 rfl rfl)
theorem dX3_sum_163 : decode cX3_sum 163 = .ok (.iadd, 1) := dk_96 (dk_at dksX3_sum_6 23 rfl rfl)
theorem dX3_sum_164 : decode cX3_sum 164 = .ok (.istore 4, 2) := dk_54 4 (dk_at dksX3_sum_7 0 rfl rfl)
theorem dX3_sum_166 : decode cX3_sum 166 = .ok (.iinc 5 1, 3) := dk_132 5 1 (dk_at dksX3_sum_7 2 rfl rfl)
theorem dX3_sum_169 : decode cX3_sum 169 = .ok (.goto (-32), 3) := dk_167 255 224 (dk_at dksX3_sum_7 5 rfl rfl)
theorem dX3_sum_172 : decode cX3_sum 172 = .ok (.iload 4, 2) := dk_21 4 (dk_at dksX3_sum_7 8 rfl rfl)
theorem dX3_sum_174 : decode cX3_sum 174 = .ok (.ireturn, 1) := dk_172 (dk_at dksX3_sum_7 10 rfl rfl)
abbrev cX3_uses : ByteArray := prog_13_method_5_code
def yX3_uses : MethodName := ⟨RX3, "uses", "(I)I"⟩
def dkwX3_uses_1 : List UInt8 := [167, 0, 4, 3, 96, 61, 132, 3, 1, 167, 255, 227, 28, 172]
abbrev dktX3_uses_1 : List UInt8 := dkwX3_uses_1 ++ []
def dkwX3_uses_0 : List UInt8 := [3, 61, 3, 62, 29, 42, 180, 0, 76, 162, 0, 27, 28, 42, 180, 0, 30, 29, 46, 27, 160, 0, 7, 4]
abbrev dktX3_uses_0 : List UInt8 := dkwX3_uses_0 ++ dktX3_uses_1
theorem dksX3_uses_0 : cX3_uses.data.toList.drop 0 = dktX3_uses_0 := by decide +kernel
theorem dksX3_uses_1 : cX3_uses.data.toList.drop 24 = dktX3_uses_1 := dk_seg dksX3_uses_0 24 rfl rfl
theorem dX3_uses_0 : decode cX3_uses 0 = .ok (.iconst 0, 1) := dk_3 (dk_at dksX3_uses_0 0 rfl rfl)
theorem dX3_uses_1 : decode cX3_uses 1 = .ok (.istore_n 2, 1) := dk_61 (dk_at dksX3_uses_0 1 rfl rfl)
theorem dX3_uses_2 : decode cX3_uses 2 = .ok (.iconst 0, 1) := dk_3 (dk_at dksX3_uses_0 2 rfl rfl)
theorem dX3_uses_3 : decode cX3_uses 3 = .ok (.istore_n 3, 1) := dk_62 (dk_at dksX3_uses_0 3 rfl rfl)
theorem dX3_uses_4 : decode cX3_uses 4 = .ok (.iload_n 3, 1) := dk_29 (dk_at dksX3_uses_0 4 rfl rfl)
theorem dX3_uses_5 : decode cX3_uses 5 = .ok (.aload_n 0, 1) := dk_42 (dk_at dksX3_uses_0 5 rfl rfl)
theorem dX3_uses_6 : decode cX3_uses 6 = .ok (.getfield 76, 3) := dk_180 0 76 (dk_at dksX3_uses_0 6 rfl rfl)
theorem dX3_uses_9 : decode cX3_uses 9 = .ok (.if_icmp .ge 27, 3) := dk_162 0 27 (dk_at dksX3_uses_0 9 rfl rfl)
theorem dX3_uses_12 : decode cX3_uses 12 = .ok (.iload_n 2, 1) := dk_28 (dk_at dksX3_uses_0 12 rfl rfl)
theorem dX3_uses_13 : decode cX3_uses 13 = .ok (.aload_n 0, 1) := dk_42 (dk_at dksX3_uses_0 13 rfl rfl)
theorem dX3_uses_14 : decode cX3_uses 14 = .ok (.getfield 30, 3) := dk_180 0 30 (dk_at dksX3_uses_0 14 rfl rfl)
theorem dX3_uses_17 : decode cX3_uses 17 = .ok (.iload_n 3, 1) := dk_29 (dk_at dksX3_uses_0 17 rfl rfl)
theorem dX3_uses_18 : decode cX3_uses 18 = .ok (.iaload, 1) := dk_46 (dk_at dksX3_uses_0 18 rfl rfl)
theorem dX3_uses_19 : decode cX3_uses 19 = .ok (.iload_n 1, 1) := dk_27 (dk_at dksX3_uses_0 19 rfl rfl)
theorem dX3_uses_20 : decode cX3_uses 20 = .ok (.if_icmp .ne 7, 3) := dk_160 0 7 (dk_at dksX3_uses_0 20 rfl rfl)
theorem dX3_uses_23 : decode cX3_uses 23 = .ok (.iconst 1, 1) := dk_4 (dk_at dksX3_uses_0 23 rfl rfl)
theorem dX3_uses_24 : decode cX3_uses 24 = .ok (.goto 4, 3) := dk_167 0 4 (dk_at dksX3_uses_1 0 rfl rfl)
theorem dX3_uses_27 : decode cX3_uses 27 = .ok (.iconst 0, 1) := dk_3 (dk_at dksX3_uses_1 3 rfl rfl)
theorem dX3_uses_28 : decode cX3_uses 28 = .ok (.iadd, 1) := dk_96 (dk_at dksX3_uses_1 4 rfl rfl)
theorem dX3_uses_29 : decode cX3_uses 29 = .ok (.istore_n 2, 1) := dk_61 (dk_at dksX3_uses_1 5 rfl rfl)
theorem dX3_uses_30 : decode cX3_uses 30 = .ok (.iinc 3 1, 3) := dk_132 3 1 (dk_at dksX3_uses_1 6 rfl rfl)
theorem dX3_uses_33 : decode cX3_uses 33 = .ok (.goto (-29), 3) := dk_167 255 227 (dk_at dksX3_uses_1 9 rfl rfl)
theorem dX3_uses_36 : decode cX3_uses 36 = .ok (.iload_n 2, 1) := dk_28 (dk_at dksX3_uses_1 12 rfl rfl)
theorem dX3_uses_37 : decode cX3_uses 37 = .ok (.ireturn, 1) := dk_172 (dk_at dksX3_uses_1 13 rfl rfl)
abbrev cX3_letsThrough : ByteArray := prog_13_method_15_code
def yX3_letsThrough : MethodName := ⟨RX3, "letsThrough", "(LGuestView$Guest;LGuestView$Op;)Z"⟩
def dkwX3_letsThrough_3 : List UInt8 := [180, 0, 177, 100, 16, 8, 96, 16, 8, 112, 181, 0, 174, 21, 5, 172]
abbrev dktX3_letsThrough_3 : List UInt8 := dkwX3_letsThrough_3 ++ []
def dkwX3_letsThrough_2 : List UInt8 := [4, 160, 0, 7, 4, 167, 0, 4, 3, 54, 5, 45, 21, 4, 181, 0, 171, 45, 45, 180, 0, 174, 43]
abbrev dktX3_letsThrough_2 : List UInt8 := dkwX3_letsThrough_2 ++ dktX3_letsThrough_3
def dkwX3_letsThrough_1 : List UInt8 := [180, 0, 177, 96, 16, 8, 112, 181, 0, 174, 45, 3, 181, 0, 159, 45, 44, 182, 0, 162, 45, 180, 0, 171]
abbrev dktX3_letsThrough_1 : List UInt8 := dkwX3_letsThrough_1 ++ dktX3_letsThrough_2
def dkwX3_letsThrough_0 : List UInt8 := [43, 180, 0, 145, 78, 45, 180, 0, 171, 54, 4, 45, 3, 181, 0, 171, 45, 45, 180, 0, 174, 43]
abbrev dktX3_letsThrough_0 : List UInt8 := dkwX3_letsThrough_0 ++ dktX3_letsThrough_1
theorem dksX3_letsThrough_0 : cX3_letsThrough.data.toList.drop 0 = dktX3_letsThrough_0 := by decide +kernel
theorem dksX3_letsThrough_1 : cX3_letsThrough.data.toList.drop 22 = dktX3_letsThrough_1 := dk_seg dksX3_letsThrough_0 22 rfl rfl
theorem dksX3_letsThrough_2 : cX3_letsThrough.data.toList.drop 46 = dktX3_letsThrough_2 := dk_seg dksX3_letsThrough_1 24 rfl rfl
theorem dksX3_letsThrough_3 : cX3_letsThrough.data.toList.drop 69 = dktX3_letsThrough_3 := dk_seg dksX3_letsThrough_2 23 rfl rfl
theorem dX3_letsThrough_0 : decode cX3_letsThrough 0 = .ok (.aload_n 1, 1) := dk_43 (dk_at dksX3_letsThrough_0 0 rfl rfl)
theorem dX3_letsThrough_1 : decode cX3_letsThrough 1 = .ok (.getfield 145, 3) := dk_180 0 145 (dk_at dksX3_letsThrough_0 1 rfl rfl)
theorem dX3_letsThrough_4 : decode cX3_letsThrough 4 = .ok (.astore_n 3, 1) := dk_78 (dk_at dksX3_letsThrough_0 4 rfl rfl)
theorem dX3_letsThrough_5 : decode cX3_letsThrough 5 = .ok (.aload_n 3, 1) := dk_45 (dk_at dksX3_letsThrough_0 5 rfl rfl)
theorem dX3_letsThrough_6 : decode cX3_letsThrough 6 = .ok (.getfield 171, 3) := dk_180 0 171 (dk_at dksX3_letsThrough_0 6 rfl rfl)
theorem dX3_letsThrough_9 : decode cX3_letsThrough 9 = .ok (.istore 4, 2) := dk_54 4 (dk_at dksX3_letsThrough_0 9 rfl rfl)
theorem dX3_letsThrough_11 : decode cX3_letsThrough 11 = .ok (.aload_n 3, 1) := dk_45 (dk_at dksX3_letsThrough_0 11 rfl rfl)
theorem dX3_letsThrough_12 : decode cX3_letsThrough 12 = .ok (.iconst 0, 1) := dk_3 (dk_at dksX3_letsThrough_0 12 rfl rfl)
theorem dX3_letsThrough_13 : decode cX3_letsThrough 13 = .ok (.putfield 171, 3) := dk_181 0 171 (dk_at dksX3_letsThrough_0 13 rfl rfl)
theorem dX3_letsThrough_16 : decode cX3_letsThrough 16 = .ok (.aload_n 3, 1) := dk_45 (dk_at dksX3_letsThrough_0 16 rfl rfl)
theorem dX3_letsThrough_17 : decode cX3_letsThrough 17 = .ok (.aload_n 3, 1) := dk_45 (dk_at dksX3_letsThrough_0 17 rfl rfl)
theorem dX3_letsThrough_18 : decode cX3_letsThrough 18 = .ok (.getfield 174, 3) := dk_180 0 174 (dk_at dksX3_letsThrough_0 18 rfl rfl)
theorem dX3_letsThrough_21 : decode cX3_letsThrough 21 = .ok (.aload_n 1, 1) := dk_43 (dk_at dksX3_letsThrough_0 21 rfl rfl)
theorem dX3_letsThrough_22 : decode cX3_letsThrough 22 = .ok (.getfield 177, 3) := dk_180 0 177 (dk_at dksX3_letsThrough_1 0 rfl rfl)
theorem dX3_letsThrough_25 : decode cX3_letsThrough 25 = .ok (.iadd, 1) := dk_96 (dk_at dksX3_letsThrough_1 3 rfl rfl)
theorem dX3_letsThrough_26 : decode cX3_letsThrough 26 = .ok (.bipush 8, 2) := dk_16 8 (dk_at dksX3_letsThrough_1 4 rfl rfl)
theorem dX3_letsThrough_28 : decode cX3_letsThrough 28 = .ok (.irem, 1) := dk_112 (dk_at dksX3_letsThrough_1 6 rfl rfl)
theorem dX3_letsThrough_29 : decode cX3_letsThrough 29 = .ok (.putfield 174, 3) := dk_181 0 174 (dk_at dksX3_letsThrough_1 7 rfl rfl)
theorem dX3_letsThrough_32 : decode cX3_letsThrough 32 = .ok (.aload_n 3, 1) := dk_45 (dk_at dksX3_letsThrough_1 10 rfl rfl)
theorem dX3_letsThrough_33 : decode cX3_letsThrough 33 = .ok (.iconst 0, 1) := dk_3 (dk_at dksX3_letsThrough_1 11 rfl rfl)
theorem dX3_letsThrough_34 : decode cX3_letsThrough 34 = .ok (.putfield 159, 3) := dk_181 0 159 (dk_at dksX3_letsThrough_1 12 rfl rfl)
theorem dX3_letsThrough_37 : decode cX3_letsThrough 37 = .ok (.aload_n 3, 1) := dk_45 (dk_at dksX3_letsThrough_1 15 rfl rfl)
theorem dX3_letsThrough_38 : decode cX3_letsThrough 38 = .ok (.aload_n 2, 1) := dk_44 (dk_at dksX3_letsThrough_1 16 rfl rfl)
theorem dX3_letsThrough_39 : decode cX3_letsThrough 39 = .ok (.invokevirtual 162, 3) := dk_182 0 162 (dk_at dksX3_letsThrough_1 17 rfl rfl)
theorem dX3_letsThrough_42 : decode cX3_letsThrough 42 = .ok (.aload_n 3, 1) := dk_45 (dk_at dksX3_letsThrough_1 20 rfl rfl)
theorem dX3_letsThrough_43 : decode cX3_letsThrough 43 = .ok (.getfield 171, 3) := dk_180 0 171 (dk_at dksX3_letsThrough_1 21 rfl rfl)
theorem dX3_letsThrough_46 : decode cX3_letsThrough 46 = .ok (.iconst 1, 1) := dk_4 (dk_at dksX3_letsThrough_2 0 rfl rfl)
theorem dX3_letsThrough_47 : decode cX3_letsThrough 47 = .ok (.if_icmp .ne 7, 3) := dk_160 0 7 (dk_at dksX3_letsThrough_2 1 rfl rfl)
theorem dX3_letsThrough_50 : decode cX3_letsThrough 50 = .ok (.iconst 1, 1) := dk_4 (dk_at dksX3_letsThrough_2 4 rfl rfl)
theorem dX3_letsThrough_51 : decode cX3_letsThrough 51 = .ok (.goto 4, 3) := dk_167 0 4 (dk_at dksX3_letsThrough_2 5 rfl rfl)
theorem dX3_letsThrough_54 : decode cX3_letsThrough 54 = .ok (.iconst 0, 1) := dk_3 (dk_at dksX3_letsThrough_2 8 rfl rfl)
theorem dX3_letsThrough_55 : decode cX3_letsThrough 55 = .ok (.istore 5, 2) := dk_54 5 (dk_at dksX3_letsThrough_2 9 rfl rfl)
theorem dX3_letsThrough_57 : decode cX3_letsThrough 57 = .ok (.aload_n 3, 1) := dk_45 (dk_at dksX3_letsThrough_2 11 rfl rfl)
theorem dX3_letsThrough_58 : decode cX3_letsThrough 58 = .ok (.iload 4, 2) := dk_21 4 (dk_at dksX3_letsThrough_2 12 rfl rfl)
theorem dX3_letsThrough_60 : decode cX3_letsThrough 60 = .ok (.putfield 171, 3) := dk_181 0 171 (dk_at dksX3_letsThrough_2 14 rfl rfl)
theorem dX3_letsThrough_63 : decode cX3_letsThrough 63 = .ok (.aload_n 3, 1) := dk_45 (dk_at dksX3_letsThrough_2 17 rfl rfl)
theorem dX3_letsThrough_64 : decode cX3_letsThrough 64 = .ok (.aload_n 3, 1) := dk_45 (dk_at dksX3_letsThrough_2 18 rfl rfl)
theorem dX3_letsThrough_65 : decode cX3_letsThrough 65 = .ok (.getfield 174, 3) := dk_180 0 174 (dk_at dksX3_letsThrough_2 19 rfl rfl)
theorem dX3_letsThrough_68 : decode cX3_letsThrough 68 = .ok (.aload_n 1, 1) := dk_43 (dk_at dksX3_letsThrough_2 22 rfl rfl)
theorem dX3_letsThrough_69 : decode cX3_letsThrough 69 = .ok (.getfield 177, 3) := dk_180 0 177 (dk_at dksX3_letsThrough_3 0 rfl rfl)
theorem dX3_letsThrough_72 : decode cX3_letsThrough 72 = .ok (.isub, 1) := dk_100 (dk_at dksX3_letsThrough_3 3 rfl rfl)
theorem dX3_letsThrough_73 : decode cX3_letsThrough 73 = .ok (.bipush 8, 2) := dk_16 8 (dk_at dksX3_letsThrough_3 4 rfl rfl)
theorem dX3_letsThrough_75 : decode cX3_letsThrough 75 = .ok (.iadd, 1) := dk_96 (dk_at dksX3_letsThrough_3 6 rfl rfl)
theorem dX3_letsThrough_76 : decode cX3_letsThrough 76 = .ok (.bipush 8, 2) := dk_16 8 (dk_at dksX3_letsThrough_3 7 rfl rfl)
theorem dX3_letsThrough_78 : decode cX3_letsThrough 78 = .ok (.irem, 1) := dk_112 (dk_at dksX3_letsThrough_3 9 rfl rfl)
theorem dX3_letsThrough_79 : decode cX3_letsThrough 79 = .ok (.putfield 174, 3) := dk_181 0 174 (dk_at dksX3_letsThrough_3 10 rfl rfl)
theorem dX3_letsThrough_82 : decode cX3_letsThrough 82 = .ok (.iload 5, 2) := dk_21 5 (dk_at dksX3_letsThrough_3 13 rfl rfl)
theorem dX3_letsThrough_84 : decode cX3_letsThrough 84 = .ok (.ireturn, 1) := dk_172 (dk_at dksX3_letsThrough_3 15 rfl rfl)
abbrev cX3_blame : ByteArray := prog_13_method_8_code
def yX3_blame : MethodName := ⟨RX3, "blame", "(I)I"⟩
def dkwX3_blame_0 : List UInt8 := [42, 4, 27, 182, 0, 126, 172]
abbrev dktX3_blame_0 : List UInt8 := dkwX3_blame_0 ++ []
theorem dksX3_blame_0 : cX3_blame.data.toList.drop 0 = dktX3_blame_0 := by decide +kernel
theorem dX3_blame_0 : decode cX3_blame 0 = .ok (.aload_n 0, 1) := dk_42 (dk_at dksX3_blame_0 0 rfl rfl)
theorem dX3_blame_1 : decode cX3_blame 1 = .ok (.iconst 1, 1) := dk_4 (dk_at dksX3_blame_0 1 rfl rfl)
theorem dX3_blame_2 : decode cX3_blame 2 = .ok (.iload_n 1, 1) := dk_27 (dk_at dksX3_blame_0 2 rfl rfl)
theorem dX3_blame_3 : decode cX3_blame 3 = .ok (.invokevirtual 126, 3) := dk_182 0 126 (dk_at dksX3_blame_0 3 rfl rfl)
theorem dX3_blame_6 : decode cX3_blame 6 = .ok (.ireturn, 1) := dk_172 (dk_at dksX3_blame_0 6 rfl rfl)
abbrev cX3_worth : ByteArray := prog_13_method_9_code
def yX3_worth : MethodName := ⟨RX3, "worth", "(I)I"⟩
def dkwX3_worth_0 : List UInt8 := [4, 42, 5, 27, 182, 0, 126, 96, 172]
abbrev dktX3_worth_0 : List UInt8 := dkwX3_worth_0 ++ []
theorem dksX3_worth_0 : cX3_worth.data.toList.drop 0 = dktX3_worth_0 := by decide +kernel
theorem dX3_worth_0 : decode cX3_worth 0 = .ok (.iconst 1, 1) := dk_4 (dk_at dksX3_worth_0 0 rfl rfl)
theorem dX3_worth_1 : decode cX3_worth 1 = .ok (.aload_n 0, 1) := dk_42 (dk_at dksX3_worth_0 1 rfl rfl)
theorem dX3_worth_2 : decode cX3_worth 2 = .ok (.iconst 2, 1) := dk_5 (dk_at dksX3_worth_0 2 rfl rfl)
theorem dX3_worth_3 : decode cX3_worth 3 = .ok (.iload_n 1, 1) := dk_27 (dk_at dksX3_worth_0 3 rfl rfl)
theorem dX3_worth_4 : decode cX3_worth 4 = .ok (.invokevirtual 126, 3) := dk_182 0 126 (dk_at dksX3_worth_0 4 rfl rfl)
theorem dX3_worth_7 : decode cX3_worth 7 = .ok (.iadd, 1) := dk_96 (dk_at dksX3_worth_0 7 rfl rfl)
theorem dX3_worth_8 : decode cX3_worth 8 = .ok (.ireturn, 1) := dk_172 (dk_at dksX3_worth_0 8 rfl rfl)
abbrev cX3_passes : ByteArray := prog_13_method_18_code
def yX3_passes : MethodName := ⟨RX3, "passes", "(Z)Z"⟩
def dkwX3_passes_7 : List UInt8 := [21, 5, 4, 163, 0, 7, 4, 167, 0, 4, 3, 172]
abbrev dktX3_passes_7 : List UInt8 := dkwX3_passes_7 ++ []
def dkwX3_passes_6 : List UInt8 := [42, 21, 4, 6, 29, 182, 0, 185, 42, 17, 39, 15, 42, 180, 0, 88, 4, 96, 184, 0, 130, 181, 0, 88]
abbrev dktX3_passes_6 : List UInt8 := dkwX3_passes_6 ++ dktX3_passes_7
def dkwX3_passes_5 : List UInt8 := [184, 0, 130, 181, 0, 91, 28, 153, 0, 25, 42, 180, 0, 39, 42, 180, 0, 43, 182, 0, 189, 154, 0, 11]
abbrev dktX3_passes_5 : List UInt8 := dkwX3_passes_5 ++ dktX3_passes_6
def dkwX3_passes_4 : List UInt8 := [182, 0, 185, 21, 5, 4, 163, 0, 24, 42, 17, 39, 15, 42, 180, 0, 91, 42, 21, 4, 182, 0, 205, 96]
abbrev dktX3_passes_4 : List UInt8 := dkwX3_passes_4 ++ dktX3_passes_5
def dkwX3_passes_3 : List UInt8 := [42, 42, 180, 0, 43, 182, 0, 202, 54, 5, 21, 5, 5, 163, 0, 12, 42, 21, 4, 21, 5, 29]
abbrev dktX3_passes_3 : List UInt8 := dkwX3_passes_3 ++ dktX3_passes_4
def dkwX3_passes_2 : List UInt8 := [182, 0, 196, 167, 0, 73, 42, 42, 180, 0, 43, 182, 0, 141, 54, 4, 42, 42, 180, 0, 39, 182, 0, 199]
abbrev dktX3_passes_2 : List UInt8 := dkwX3_passes_2 ++ dktX3_passes_3
def dkwX3_passes_1 : List UInt8 := [16, 6, 54, 5, 27, 153, 0, 23, 42, 16, 100, 182, 0, 193, 42, 180, 0, 85, 162, 0, 10, 42]
abbrev dktX3_passes_1 : List UInt8 := dkwX3_passes_1 ++ dktX3_passes_2
def dkwX3_passes_0 : List UInt8 := [42, 180, 0, 39, 42, 180, 0, 43, 182, 0, 189, 61, 42, 180, 0, 43, 180, 0, 138, 62, 2, 54, 4]
abbrev dktX3_passes_0 : List UInt8 := dkwX3_passes_0 ++ dktX3_passes_1
theorem dksX3_passes_0 : cX3_passes.data.toList.drop 0 = dktX3_passes_0 := by decide +kernel
theorem dksX3_passes_1 : cX3_passes.data.toList.drop 23 = dktX3_passes_1 := dk_seg dksX3_passes_0 23 rfl rfl
theorem dksX3_passes_2 : cX3_passes.data.toList.drop 45 = dktX3_passes_2 := dk_seg dksX3_passes_1 22 rfl rfl
theorem dksX3_passes_3 : cX3_passes.data.toList.drop 69 = dktX3_passes_3 := dk_seg dksX3_passes_2 24 rfl rfl
theorem dksX3_passes_4 : cX3_passes.data.toList.drop 91 = dktX3_passes_4 := dk_seg dksX3_passes_3 22 rfl rfl
theorem dksX3_passes_5 : cX3_passes.data.toList.drop 115 = dktX3_passes_5 := dk_seg dksX3_passes_4 24 rfl rfl
theorem dksX3_passes_6 : cX3_passes.data.toList.drop 139 = dktX3_passes_6 := dk_seg dksX3_passes_5 24 rfl rfl
theorem dksX3_passes_7 : cX3_passes.data.toList.drop 163 = dktX3_passes_7 := dk_seg dksX3_passes_6 24 rfl rfl
theorem dX3_passes_0 : decode cX3_passes 0 = .ok (.aload_n 0, 1) := dk_42 (dk_at dksX3_passes_0 0 rfl rfl)
theorem dX3_passes_1 : decode cX3_passes 1 = .ok (.getfield 39, 3) := dk_180 0 39 (dk_at dksX3_passes_0 1 rfl rfl)
theorem dX3_passes_4 : decode cX3_passes 4 = .ok (.aload_n 0, 1) := dk_42 (dk_at dksX3_passes_0 4 rfl rfl)
theorem dX3_passes_5 : decode cX3_passes 5 = .ok (.getfield 43, 3) := dk_180 0 43 (dk_at dksX3_passes_0 5 rfl rfl)
theorem dX3_passes_8 : decode cX3_passes 8 = .ok (.invokevirtual 189, 3) := dk_182 0 189 (dk_at dksX3_passes_0 8 rfl rfl)
theorem dX3_passes_11 : decode cX3_passes 11 = .ok (.istore_n 2, 1) := dk_61 (dk_at dksX3_passes_0 11 rfl rfl)
theorem dX3_passes_12 : decode cX3_passes 12 = .ok (.aload_n 0, 1) := dk_42 (dk_at dksX3_passes_0 12 rfl rfl)
theorem dX3_passes_13 : decode cX3_passes 13 = .ok (.getfield 43, 3) := dk_180 0 43 (dk_at dksX3_passes_0 13 rfl rfl)
theorem dX3_passes_16 : decode cX3_passes 16 = .ok (.getfield 138, 3) := dk_180 0 138 (dk_at dksX3_passes_0 16 rfl rfl)
theorem dX3_passes_19 : decode cX3_passes 19 = .ok (.istore_n 3, 1) := dk_62 (dk_at dksX3_passes_0 19 rfl rfl)
theorem dX3_passes_20 : decode cX3_passes 20 = .ok (.iconst (-1), 1) := dk_2 (dk_at dksX3_passes_0 20 rfl rfl)
theorem dX3_passes_21 : decode cX3_passes 21 = .ok (.istore 4, 2) := dk_54 4 (dk_at dksX3_passes_0 21 rfl rfl)
theorem dX3_passes_23 : decode cX3_passes 23 = .ok (.bipush 6, 2) := dk_16 6 (dk_at dksX3_passes_1 0 rfl rfl)
theorem dX3_passes_25 : decode cX3_passes 25 = .ok (.istore 5, 2) := dk_54 5 (dk_at dksX3_passes_1 2 rfl rfl)
theorem dX3_passes_27 : decode cX3_passes 27 = .ok (.iload_n 1, 1) := dk_27 (dk_at dksX3_passes_1 4 rfl rfl)
theorem dX3_passes_28 : decode cX3_passes 28 = .ok (.ifCond .eq 23, 3) := dk_153 0 23 (dk_at dksX3_passes_1 5 rfl rfl)
theorem dX3_passes_31 : decode cX3_passes 31 = .ok (.aload_n 0, 1) := dk_42 (dk_at dksX3_passes_1 8 rfl rfl)
theorem dX3_passes_32 : decode cX3_passes 32 = .ok (.bipush 100, 2) := dk_16 100 (dk_at dksX3_passes_1 9 rfl rfl)
theorem dX3_passes_34 : decode cX3_passes 34 = .ok (.invokevirtual 193, 3) := dk_182 0 193 (dk_at dksX3_passes_1 11 rfl rfl)
theorem dX3_passes_37 : decode cX3_passes 37 = .ok (.aload_n 0, 1) := dk_42 (dk_at dksX3_passes_1 14 rfl rfl)
theorem dX3_passes_38 : decode cX3_passes 38 = .ok (.getfield 85, 3) := dk_180 0 85 (dk_at dksX3_passes_1 15 rfl rfl)
theorem dX3_passes_41 : decode cX3_passes 41 = .ok (.if_icmp .ge 10, 3) := dk_162 0 10 (dk_at dksX3_passes_1 18 rfl rfl)
theorem dX3_passes_44 : decode cX3_passes 44 = .ok (.aload_n 0, 1) := dk_42 (dk_at dksX3_passes_1 21 rfl rfl)
theorem dX3_passes_45 : decode cX3_passes 45 = .ok (.invokevirtual 196, 3) := dk_182 0 196 (dk_at dksX3_passes_2 0 rfl rfl)
theorem dX3_passes_48 : decode cX3_passes 48 = .ok (.goto 73, 3) := dk_167 0 73 (dk_at dksX3_passes_2 3 rfl rfl)
theorem dX3_passes_51 : decode cX3_passes 51 = .ok (.aload_n 0, 1) := dk_42 (dk_at dksX3_passes_2 6 rfl rfl)
theorem dX3_passes_52 : decode cX3_passes 52 = .ok (.aload_n 0, 1) := dk_42 (dk_at dksX3_passes_2 7 rfl rfl)
theorem dX3_passes_53 : decode cX3_passes 53 = .ok (.getfield 43, 3) := dk_180 0 43 (dk_at dksX3_passes_2 8 rfl rfl)
theorem dX3_passes_56 : decode cX3_passes 56 = .ok (.invokevirtual 141, 3) := dk_182 0 141 (dk_at dksX3_passes_2 11 rfl rfl)
theorem dX3_passes_59 : decode cX3_passes 59 = .ok (.istore 4, 2) := dk_54 4 (dk_at dksX3_passes_2 14 rfl rfl)
theorem dX3_passes_61 : decode cX3_passes 61 = .ok (.aload_n 0, 1) := dk_42 (dk_at dksX3_passes_2 16 rfl rfl)
theorem dX3_passes_62 : decode cX3_passes 62 = .ok (.aload_n 0, 1) := dk_42 (dk_at dksX3_passes_2 17 rfl rfl)
theorem dX3_passes_63 : decode cX3_passes 63 = .ok (.getfield 39, 3) := dk_180 0 39 (dk_at dksX3_passes_2 18 rfl rfl)
theorem dX3_passes_66 : decode cX3_passes 66 = .ok (.invokevirtual 199, 3) := dk_182 0 199 (dk_at dksX3_passes_2 21 rfl rfl)
theorem dX3_passes_69 : decode cX3_passes 69 = .ok (.aload_n 0, 1) := dk_42 (dk_at dksX3_passes_3 0 rfl rfl)
theorem dX3_passes_70 : decode cX3_passes 70 = .ok (.aload_n 0, 1) := dk_42 (dk_at dksX3_passes_3 1 rfl rfl)
theorem dX3_passes_71 : decode cX3_passes 71 = .ok (.getfield 43, 3) := dk_180 0 43 (dk_at dksX3_passes_3 2 rfl rfl)
theorem dX3_passes_74 : decode cX3_passes 74 = .ok (.invokevirtual 202, 3) := dk_182 0 202 (dk_at dksX3_passes_3 5 rfl rfl)
theorem dX3_passes_77 : decode cX3_passes 77 = .ok (.istore 5, 2) := dk_54 5 (dk_at dksX3_passes_3 8 rfl rfl)
theorem dX3_passes_79 : decode cX3_passes 79 = .ok (.iload 5, 2) := dk_21 5 (dk_at dksX3_passes_3 10 rfl rfl)
theorem dX3_passes_81 : decode cX3_passes 81 = .ok (.iconst 2, 1) := dk_5 (dk_at dksX3_passes_3 12 rfl rfl)
theorem dX3_passes_82 : decode cX3_passes 82 = .ok (.if_icmp .gt 12, 3) := dk_163 0 12 (dk_at dksX3_passes_3 13 rfl rfl)
theorem dX3_passes_85 : decode cX3_passes 85 = .ok (.aload_n 0, 1) := dk_42 (dk_at dksX3_passes_3 16 rfl rfl)
theorem dX3_passes_86 : decode cX3_passes 86 = .ok (.iload 4, 2) := dk_21 4 (dk_at dksX3_passes_3 17 rfl rfl)
theorem dX3_passes_88 : decode cX3_passes 88 = .ok (.iload 5, 2) := dk_21 5 (dk_at dksX3_passes_3 19 rfl rfl)
theorem dX3_passes_90 : decode cX3_passes 90 = .ok (.iload_n 3, 1) := dk_29 (dk_at dksX3_passes_3 21 rfl rfl)
theorem dX3_passes_91 : decode cX3_passes 91 = .ok (.invokevirtual 185, 3) := dk_182 0 185 (dk_at dksX3_passes_4 0 rfl rfl)
theorem dX3_passes_94 : decode cX3_passes 94 = .ok (.iload 5, 2) := dk_21 5 (dk_at dksX3_passes_4 3 rfl rfl)
theorem dX3_passes_96 : decode cX3_passes 96 = .ok (.iconst 1, 1) := dk_4 (dk_at dksX3_passes_4 5 rfl rfl)
theorem dX3_passes_97 : decode cX3_passes 97 = .ok (.if_icmp .gt 24, 3) := dk_163 0 24 (dk_at dksX3_passes_4 6 rfl rfl)
theorem dX3_passes_100 : decode cX3_passes 100 = .ok (.aload_n 0, 1) := dk_42 (dk_at dksX3_passes_4 9 rfl rfl)
theorem dX3_passes_101 : decode cX3_passes 101 = .ok (.sipush 9999, 3) := dk_17 39 15 (dk_at dksX3_passes_4 10 rfl rfl)
theorem dX3_passes_104 : decode cX3_passes 104 = .ok (.aload_n 0, 1) := dk_42 (dk_at dksX3_passes_4 13 rfl rfl)
theorem dX3_passes_105 : decode cX3_passes 105 = .ok (.getfield 91, 3) := dk_180 0 91 (dk_at dksX3_passes_4 14 rfl rfl)
theorem dX3_passes_108 : decode cX3_passes 108 = .ok (.aload_n 0, 1) := dk_42 (dk_at dksX3_passes_4 17 rfl rfl)
theorem dX3_passes_109 : decode cX3_passes 109 = .ok (.iload 4, 2) := dk_21 4 (dk_at dksX3_passes_4 18 rfl rfl)
theorem dX3_passes_111 : decode cX3_passes 111 = .ok (.invokevirtual 205, 3) := dk_182 0 205 (dk_at dksX3_passes_4 20 rfl rfl)
theorem dX3_passes_114 : decode cX3_passes 114 = .ok (.iadd, 1) := dk_96 (dk_at dksX3_passes_4 23 rfl rfl)
theorem dX3_passes_115 : decode cX3_passes 115 = .ok (.invokestatic 130, 3) := dk_184 0 130 (dk_at dksX3_passes_5 0 rfl rfl)
theorem dX3_passes_118 : decode cX3_passes 118 = .ok (.putfield 91, 3) := dk_181 0 91 (dk_at dksX3_passes_5 3 rfl rfl)
theorem dX3_passes_121 : decode cX3_passes 121 = .ok (.iload_n 2, 1) := dk_28 (dk_at dksX3_passes_5 6 rfl rfl)
theorem dX3_passes_122 : decode cX3_passes 122 = .ok (.ifCond .eq 25, 3) := dk_153 0 25 (dk_at dksX3_passes_5 7 rfl rfl)
theorem dX3_passes_125 : decode cX3_passes 125 = .ok (.aload_n 0, 1) := dk_42 (dk_at dksX3_passes_5 10 rfl rfl)
theorem dX3_passes_126 : decode cX3_passes 126 = .ok (.getfield 39, 3) := dk_180 0 39 (dk_at dksX3_passes_5 11 rfl rfl)
theorem dX3_passes_129 : decode cX3_passes 129 = .ok (.aload_n 0, 1) := dk_42 (dk_at dksX3_passes_5 14 rfl rfl)
theorem dX3_passes_130 : decode cX3_passes 130 = .ok (.getfield 43, 3) := dk_180 0 43 (dk_at dksX3_passes_5 15 rfl rfl)
theorem dX3_passes_133 : decode cX3_passes 133 = .ok (.invokevirtual 189, 3) := dk_182 0 189 (dk_at dksX3_passes_5 18 rfl rfl)
theorem dX3_passes_136 : decode cX3_passes 136 = .ok (.ifCond .ne 11, 3) := dk_154 0 11 (dk_at dksX3_passes_5 21 rfl rfl)
theorem dX3_passes_139 : decode cX3_passes 139 = .ok (.aload_n 0, 1) := dk_42 (dk_at dksX3_passes_6 0 rfl rfl)
theorem dX3_passes_140 : decode cX3_passes 140 = .ok (.iload 4, 2) := dk_21 4 (dk_at dksX3_passes_6 1 rfl rfl)
theorem dX3_passes_142 : decode cX3_passes 142 = .ok (.iconst 3, 1) := dk_6 (dk_at dksX3_passes_6 3 rfl rfl)
theorem dX3_passes_143 : decode cX3_passes 143 = .ok (.iload_n 3, 1) := dk_29 (dk_at dksX3_passes_6 4 rfl rfl)
theorem dX3_passes_144 : decode cX3_passes 144 = .ok (.invokevirtual 185, 3) := dk_182 0 185 (dk_at dksX3_passes_6 5 rfl rfl)
theorem dX3_passes_147 : decode cX3_passes 147 = .ok (.aload_n 0, 1) := dk_42 (dk_at dksX3_passes_6 8 rfl rfl)
theorem dX3_passes_148 : decode cX3_passes 148 = .ok (.sipush 9999, 3) := dk_17 39 15 (dk_at dksX3_passes_6 9 rfl rfl)
theorem dX3_passes_151 : decode cX3_passes 151 = .ok (.aload_n 0, 1) := dk_42 (dk_at dksX3_passes_6 12 rfl rfl)
theorem dX3_passes_152 : decode cX3_passes 152 = .ok (.getfield 88, 3) := dk_180 0 88 (dk_at dksX3_passes_6 13 rfl rfl)
theorem dX3_passes_155 : decode cX3_passes 155 = .ok (.iconst 1, 1) := dk_4 (dk_at dksX3_passes_6 16 rfl rfl)
theorem dX3_passes_156 : decode cX3_passes 156 = .ok (.iadd, 1) := dk_96 (dk_at dksX3_passes_6 17 rfl rfl)
theorem dX3_passes_157 : decode cX3_passes 157 = .ok (.invokestatic 130, 3) := dk_184 0 130 (dk_at dksX3_passes_6 18 rfl rfl)
theorem dX3_passes_160 : decode cX3_passes 160 = .ok (.putfield 88, 3) := dk_181 0 88 (dk_at dksX3_passes_6 21 rfl rfl)
theorem dX3_passes_163 : decode cX3_passes 163 = .ok (.iload 5, 2) := dk_21 5 (dk_at dksX3_passes_7 0 rfl rfl)
theorem dX3_passes_165 : decode cX3_passes 165 = .ok (.iconst 1, 1) := dk_4 (dk_at dksX3_passes_7 2 rfl rfl)
theorem dX3_passes_166 : decode cX3_passes 166 = .ok (.if_icmp .gt 7, 3) := dk_163 0 7 (dk_at dksX3_passes_7 3 rfl rfl)
theorem dX3_passes_169 : decode cX3_passes 169 = .ok (.iconst 1, 1) := dk_4 (dk_at dksX3_passes_7 6 rfl rfl)
theorem dX3_passes_170 : decode cX3_passes 170 = .ok (.goto 4, 3) := dk_167 0 4 (dk_at dksX3_passes_7 7 rfl rfl)
theorem dX3_passes_173 : decode cX3_passes 173 = .ok (.iconst 0, 1) := dk_3 (dk_at dksX3_passes_7 10 rfl rfl)
theorem dX3_passes_174 : decode cX3_passes 174 = .ok (.ireturn, 1) := dk_172 (dk_at dksX3_passes_7 11 rfl rfl)
abbrev cX3_draw : ByteArray := prog_13_method_3_code
def yX3_draw : MethodName := ⟨RX3, "draw", "(I)I"⟩
def dkwX3_draw_1 : List UInt8 := [17, 127, 255, 126, 27, 112, 172]
abbrev dktX3_draw_1 : List UInt8 := dkwX3_draw_1 ++ []
def dkwX3_draw_0 : List UInt8 := [42, 18, 97, 42, 180, 0, 56, 104, 17, 48, 57, 96, 181, 0, 56, 42, 180, 0, 56, 16, 16, 124]
abbrev dktX3_draw_0 : List UInt8 := dkwX3_draw_0 ++ dktX3_draw_1
theorem dksX3_draw_0 : cX3_draw.data.toList.drop 0 = dktX3_draw_0 := by decide +kernel
theorem dksX3_draw_1 : cX3_draw.data.toList.drop 22 = dktX3_draw_1 := dk_seg dksX3_draw_0 22 rfl rfl
theorem dX3_draw_0 : decode cX3_draw 0 = .ok (.aload_n 0, 1) := dk_42 (dk_at dksX3_draw_0 0 rfl rfl)
theorem dX3_draw_1 : decode cX3_draw 1 = .ok (.ldc 97, 2) := dk_18 97 (dk_at dksX3_draw_0 1 rfl rfl)
theorem dX3_draw_3 : decode cX3_draw 3 = .ok (.aload_n 0, 1) := dk_42 (dk_at dksX3_draw_0 3 rfl rfl)
theorem dX3_draw_4 : decode cX3_draw 4 = .ok (.getfield 56, 3) := dk_180 0 56 (dk_at dksX3_draw_0 4 rfl rfl)
theorem dX3_draw_7 : decode cX3_draw 7 = .ok (.imul, 1) := dk_104 (dk_at dksX3_draw_0 7 rfl rfl)
theorem dX3_draw_8 : decode cX3_draw 8 = .ok (.sipush 12345, 3) := dk_17 48 57 (dk_at dksX3_draw_0 8 rfl rfl)
theorem dX3_draw_11 : decode cX3_draw 11 = .ok (.iadd, 1) := dk_96 (dk_at dksX3_draw_0 11 rfl rfl)
theorem dX3_draw_12 : decode cX3_draw 12 = .ok (.putfield 56, 3) := dk_181 0 56 (dk_at dksX3_draw_0 12 rfl rfl)
theorem dX3_draw_15 : decode cX3_draw 15 = .ok (.aload_n 0, 1) := dk_42 (dk_at dksX3_draw_0 15 rfl rfl)
theorem dX3_draw_16 : decode cX3_draw 16 = .ok (.getfield 56, 3) := dk_180 0 56 (dk_at dksX3_draw_0 16 rfl rfl)
theorem dX3_draw_19 : decode cX3_draw 19 = .ok (.bipush 16, 2) := dk_16 16 (dk_at dksX3_draw_0 19 rfl rfl)
theorem dX3_draw_21 : decode cX3_draw 21 = .ok (.iushr, 1) := dk_124 (dk_at dksX3_draw_0 21 rfl rfl)
theorem dX3_draw_22 : decode cX3_draw 22 = .ok (.sipush 32767, 3) := dk_17 127 255 (dk_at dksX3_draw_1 0 rfl rfl)
theorem dX3_draw_25 : decode cX3_draw 25 = .ok (.iand, 1) := dk_126 (dk_at dksX3_draw_1 3 rfl rfl)
theorem dX3_draw_26 : decode cX3_draw 26 = .ok (.iload_n 1, 1) := dk_27 (dk_at dksX3_draw_1 4 rfl rfl)
theorem dX3_draw_27 : decode cX3_draw 27 = .ok (.irem, 1) := dk_112 (dk_at dksX3_draw_1 5 rfl rfl)
theorem dX3_draw_28 : decode cX3_draw 28 = .ok (.ireturn, 1) := dk_172 (dk_at dksX3_draw_1 6 rfl rfl)
abbrev cX3_alarms : ByteArray := prog_13_method_17_code
def yX3_alarms : MethodName := ⟨RX3, "alarms", "()V"⟩
def dkwX3_alarms_1 : List UInt8 := [42, 180, 0, 43, 42, 180, 0, 82, 182, 0, 155, 177]
abbrev dktX3_alarms_1 : List UInt8 := dkwX3_alarms_1 ++ []
def dkwX3_alarms_0 : List UInt8 := [42, 2, 7, 42, 180, 0, 43, 180, 0, 138, 182, 0, 185, 42, 180, 0, 39, 42, 180, 0, 82, 182, 0, 155]
abbrev dktX3_alarms_0 : List UInt8 := dkwX3_alarms_0 ++ dktX3_alarms_1
theorem dksX3_alarms_0 : cX3_alarms.data.toList.drop 0 = dktX3_alarms_0 := by decide +kernel
theorem dksX3_alarms_1 : cX3_alarms.data.toList.drop 24 = dktX3_alarms_1 := dk_seg dksX3_alarms_0 24 rfl rfl
theorem dX3_alarms_0 : decode cX3_alarms 0 = .ok (.aload_n 0, 1) := dk_42 (dk_at dksX3_alarms_0 0 rfl rfl)
theorem dX3_alarms_1 : decode cX3_alarms 1 = .ok (.iconst (-1), 1) := dk_2 (dk_at dksX3_alarms_0 1 rfl rfl)
theorem dX3_alarms_2 : decode cX3_alarms 2 = .ok (.iconst 4, 1) := dk_7 (dk_at dksX3_alarms_0 2 rfl rfl)
theorem dX3_alarms_3 : decode cX3_alarms 3 = .ok (.aload_n 0, 1) := dk_42 (dk_at dksX3_alarms_0 3 rfl rfl)
theorem dX3_alarms_4 : decode cX3_alarms 4 = .ok (.getfield 43, 3) := dk_180 0 43 (dk_at dksX3_alarms_0 4 rfl rfl)
theorem dX3_alarms_7 : decode cX3_alarms 7 = .ok (.getfield 138, 3) := dk_180 0 138 (dk_at dksX3_alarms_0 7 rfl rfl)
theorem dX3_alarms_10 : decode cX3_alarms 10 = .ok (.invokevirtual 185, 3) := dk_182 0 185 (dk_at dksX3_alarms_0 10 rfl rfl)
theorem dX3_alarms_13 : decode cX3_alarms 13 = .ok (.aload_n 0, 1) := dk_42 (dk_at dksX3_alarms_0 13 rfl rfl)
theorem dX3_alarms_14 : decode cX3_alarms 14 = .ok (.getfield 39, 3) := dk_180 0 39 (dk_at dksX3_alarms_0 14 rfl rfl)
theorem dX3_alarms_17 : decode cX3_alarms 17 = .ok (.aload_n 0, 1) := dk_42 (dk_at dksX3_alarms_0 17 rfl rfl)
theorem dX3_alarms_18 : decode cX3_alarms 18 = .ok (.getfield 82, 3) := dk_180 0 82 (dk_at dksX3_alarms_0 18 rfl rfl)
theorem dX3_alarms_21 : decode cX3_alarms 21 = .ok (.invokevirtual 155, 3) := dk_182 0 155 (dk_at dksX3_alarms_0 21 rfl rfl)
theorem dX3_alarms_24 : decode cX3_alarms 24 = .ok (.aload_n 0, 1) := dk_42 (dk_at dksX3_alarms_1 0 rfl rfl)
theorem dX3_alarms_25 : decode cX3_alarms 25 = .ok (.getfield 43, 3) := dk_180 0 43 (dk_at dksX3_alarms_1 1 rfl rfl)
theorem dX3_alarms_28 : decode cX3_alarms 28 = .ok (.aload_n 0, 1) := dk_42 (dk_at dksX3_alarms_1 4 rfl rfl)
theorem dX3_alarms_29 : decode cX3_alarms 29 = .ok (.getfield 82, 3) := dk_180 0 82 (dk_at dksX3_alarms_1 5 rfl rfl)
theorem dX3_alarms_32 : decode cX3_alarms 32 = .ok (.invokevirtual 155, 3) := dk_182 0 155 (dk_at dksX3_alarms_1 8 rfl rfl)
theorem dX3_alarms_35 : decode cX3_alarms 35 = .ok (.return_, 1) := dk_177 (dk_at dksX3_alarms_1 11 rfl rfl)
abbrev cX3_writes : ByteArray := prog_13_method_10_code
def yX3_writes : MethodName := ⟨RX3, "writes", "(III)V"⟩
def dkwX3_writes_2 : List UInt8 := [21, 4, 6, 96, 29, 79, 42, 89, 180, 0, 94, 4, 96, 181, 0, 94, 177]
abbrev dktX3_writes_2 : List UInt8 := dkwX3_writes_2 ++ []
def dkwX3_writes_1 : List UInt8 := [180, 0, 27, 21, 4, 4, 96, 27, 79, 42, 180, 0, 27, 21, 4, 5, 96, 28, 79, 42, 180, 0, 27]
abbrev dktX3_writes_1 : List UInt8 := dkwX3_writes_1 ++ dktX3_writes_2
def dkwX3_writes_0 : List UInt8 := [42, 180, 0, 94, 16, 60, 112, 7, 104, 54, 4, 42, 180, 0, 27, 21, 4, 42, 180, 0, 88, 79, 42]
abbrev dktX3_writes_0 : List UInt8 := dkwX3_writes_0 ++ dktX3_writes_1
theorem dksX3_writes_0 : cX3_writes.data.toList.drop 0 = dktX3_writes_0 := by decide +kernel
theorem dksX3_writes_1 : cX3_writes.data.toList.drop 23 = dktX3_writes_1 := dk_seg dksX3_writes_0 23 rfl rfl
theorem dksX3_writes_2 : cX3_writes.data.toList.drop 46 = dktX3_writes_2 := dk_seg dksX3_writes_1 23 rfl rfl
theorem dX3_writes_0 : decode cX3_writes 0 = .ok (.aload_n 0, 1) := dk_42 (dk_at dksX3_writes_0 0 rfl rfl)
theorem dX3_writes_1 : decode cX3_writes 1 = .ok (.getfield 94, 3) := dk_180 0 94 (dk_at dksX3_writes_0 1 rfl rfl)
theorem dX3_writes_4 : decode cX3_writes 4 = .ok (.bipush 60, 2) := dk_16 60 (dk_at dksX3_writes_0 4 rfl rfl)
theorem dX3_writes_6 : decode cX3_writes 6 = .ok (.irem, 1) := dk_112 (dk_at dksX3_writes_0 6 rfl rfl)
theorem dX3_writes_7 : decode cX3_writes 7 = .ok (.iconst 4, 1) := dk_7 (dk_at dksX3_writes_0 7 rfl rfl)
theorem dX3_writes_8 : decode cX3_writes 8 = .ok (.imul, 1) := dk_104 (dk_at dksX3_writes_0 8 rfl rfl)
theorem dX3_writes_9 : decode cX3_writes 9 = .ok (.istore 4, 2) := dk_54 4 (dk_at dksX3_writes_0 9 rfl rfl)
theorem dX3_writes_11 : decode cX3_writes 11 = .ok (.aload_n 0, 1) := dk_42 (dk_at dksX3_writes_0 11 rfl rfl)
theorem dX3_writes_12 : decode cX3_writes 12 = .ok (.getfield 27, 3) := dk_180 0 27 (dk_at dksX3_writes_0 12 rfl rfl)
theorem dX3_writes_15 : decode cX3_writes 15 = .ok (.iload 4, 2) := dk_21 4 (dk_at dksX3_writes_0 15 rfl rfl)
theorem dX3_writes_17 : decode cX3_writes 17 = .ok (.aload_n 0, 1) := dk_42 (dk_at dksX3_writes_0 17 rfl rfl)
theorem dX3_writes_18 : decode cX3_writes 18 = .ok (.getfield 88, 3) := dk_180 0 88 (dk_at dksX3_writes_0 18 rfl rfl)
theorem dX3_writes_21 : decode cX3_writes 21 = .ok (.iastore, 1) := dk_79 (dk_at dksX3_writes_0 21 rfl rfl)
theorem dX3_writes_22 : decode cX3_writes 22 = .ok (.aload_n 0, 1) := dk_42 (dk_at dksX3_writes_0 22 rfl rfl)
theorem dX3_writes_23 : decode cX3_writes 23 = .ok (.getfield 27, 3) := dk_180 0 27 (dk_at dksX3_writes_1 0 rfl rfl)
theorem dX3_writes_26 : decode cX3_writes 26 = .ok (.iload 4, 2) := dk_21 4 (dk_at dksX3_writes_1 3 rfl rfl)
theorem dX3_writes_28 : decode cX3_writes 28 = .ok (.iconst 1, 1) := dk_4 (dk_at dksX3_writes_1 5 rfl rfl)
theorem dX3_writes_29 : decode cX3_writes 29 = .ok (.iadd, 1) := dk_96 (dk_at dksX3_writes_1 6 rfl rfl)
theorem dX3_writes_30 : decode cX3_writes 30 = .ok (.iload_n 1, 1) := dk_27 (dk_at dksX3_writes_1 7 rfl rfl)
theorem dX3_writes_31 : decode cX3_writes 31 = .ok (.iastore, 1) := dk_79 (dk_at dksX3_writes_1 8 rfl rfl)
theorem dX3_writes_32 : decode cX3_writes 32 = .ok (.aload_n 0, 1) := dk_42 (dk_at dksX3_writes_1 9 rfl rfl)
theorem dX3_writes_33 : decode cX3_writes 33 = .ok (.getfield 27, 3) := dk_180 0 27 (dk_at dksX3_writes_1 10 rfl rfl)
theorem dX3_writes_36 : decode cX3_writes 36 = .ok (.iload 4, 2) := dk_21 4 (dk_at dksX3_writes_1 13 rfl rfl)
theorem dX3_writes_38 : decode cX3_writes 38 = .ok (.iconst 2, 1) := dk_5 (dk_at dksX3_writes_1 15 rfl rfl)
theorem dX3_writes_39 : decode cX3_writes 39 = .ok (.iadd, 1) := dk_96 (dk_at dksX3_writes_1 16 rfl rfl)
theorem dX3_writes_40 : decode cX3_writes 40 = .ok (.iload_n 2, 1) := dk_28 (dk_at dksX3_writes_1 17 rfl rfl)
theorem dX3_writes_41 : decode cX3_writes 41 = .ok (.iastore, 1) := dk_79 (dk_at dksX3_writes_1 18 rfl rfl)
theorem dX3_writes_42 : decode cX3_writes 42 = .ok (.aload_n 0, 1) := dk_42 (dk_at dksX3_writes_1 19 rfl rfl)
theorem dX3_writes_43 : decode cX3_writes 43 = .ok (.getfield 27, 3) := dk_180 0 27 (dk_at dksX3_writes_1 20 rfl rfl)
theorem dX3_writes_46 : decode cX3_writes 46 = .ok (.iload 4, 2) := dk_21 4 (dk_at dksX3_writes_2 0 rfl rfl)
theorem dX3_writes_48 : decode cX3_writes 48 = .ok (.iconst 3, 1) := dk_6 (dk_at dksX3_writes_2 2 rfl rfl)
theorem dX3_writes_49 : decode cX3_writes 49 = .ok (.iadd, 1) := dk_96 (dk_at dksX3_writes_2 3 rfl rfl)
theorem dX3_writes_50 : decode cX3_writes 50 = .ok (.iload_n 3, 1) := dk_29 (dk_at dksX3_writes_2 4 rfl rfl)
theorem dX3_writes_51 : decode cX3_writes 51 = .ok (.iastore, 1) := dk_79 (dk_at dksX3_writes_2 5 rfl rfl)
theorem dX3_writes_52 : decode cX3_writes 52 = .ok (.aload_n 0, 1) := dk_42 (dk_at dksX3_writes_2 6 rfl rfl)
theorem dX3_writes_53 : decode cX3_writes 53 = .ok (.dup, 1) := dk_89 (dk_at dksX3_writes_2 7 rfl rfl)
theorem dX3_writes_54 : decode cX3_writes 54 = .ok (.getfield 94, 3) := dk_180 0 94 (dk_at dksX3_writes_2 8 rfl rfl)
theorem dX3_writes_57 : decode cX3_writes 57 = .ok (.iconst 1, 1) := dk_4 (dk_at dksX3_writes_2 11 rfl rfl)
theorem dX3_writes_58 : decode cX3_writes 58 = .ok (.iadd, 1) := dk_96 (dk_at dksX3_writes_2 12 rfl rfl)
theorem dX3_writes_59 : decode cX3_writes 59 = .ok (.putfield 94, 3) := dk_181 0 94 (dk_at dksX3_writes_2 13 rfl rfl)
theorem dX3_writes_62 : decode cX3_writes 62 = .ok (.return_, 1) := dk_177 (dk_at dksX3_writes_2 16 rfl rfl)
abbrev cX3_isKept : ByteArray := prog_13_method_11_code
def yX3_isKept : MethodName := ⟨RX3, "isKept", "(I)Z"⟩
def dkwX3_isKept_0 : List UInt8 := [27, 155, 0, 20, 27, 16, 60, 42, 180, 0, 94, 184, 0, 130, 162, 0, 7, 4, 167, 0, 4, 3, 172]
abbrev dktX3_isKept_0 : List UInt8 := dkwX3_isKept_0 ++ []
theorem dksX3_isKept_0 : cX3_isKept.data.toList.drop 0 = dktX3_isKept_0 := by decide +kernel
theorem dX3_isKept_0 : decode cX3_isKept 0 = .ok (.iload_n 1, 1) := dk_27 (dk_at dksX3_isKept_0 0 rfl rfl)
theorem dX3_isKept_1 : decode cX3_isKept 1 = .ok (.ifCond .lt 20, 3) := dk_155 0 20 (dk_at dksX3_isKept_0 1 rfl rfl)
theorem dX3_isKept_4 : decode cX3_isKept 4 = .ok (.iload_n 1, 1) := dk_27 (dk_at dksX3_isKept_0 4 rfl rfl)
theorem dX3_isKept_5 : decode cX3_isKept 5 = .ok (.bipush 60, 2) := dk_16 60 (dk_at dksX3_isKept_0 5 rfl rfl)
theorem dX3_isKept_7 : decode cX3_isKept 7 = .ok (.aload_n 0, 1) := dk_42 (dk_at dksX3_isKept_0 7 rfl rfl)
theorem dX3_isKept_8 : decode cX3_isKept 8 = .ok (.getfield 94, 3) := dk_180 0 94 (dk_at dksX3_isKept_0 8 rfl rfl)
theorem dX3_isKept_11 : decode cX3_isKept 11 = .ok (.invokestatic 130, 3) := dk_184 0 130 (dk_at dksX3_isKept_0 11 rfl rfl)
theorem dX3_isKept_14 : decode cX3_isKept 14 = .ok (.if_icmp .ge 7, 3) := dk_162 0 7 (dk_at dksX3_isKept_0 14 rfl rfl)
theorem dX3_isKept_17 : decode cX3_isKept 17 = .ok (.iconst 1, 1) := dk_4 (dk_at dksX3_isKept_0 17 rfl rfl)
theorem dX3_isKept_18 : decode cX3_isKept 18 = .ok (.goto 4, 3) := dk_167 0 4 (dk_at dksX3_isKept_0 18 rfl rfl)
theorem dX3_isKept_21 : decode cX3_isKept 21 = .ok (.iconst 0, 1) := dk_3 (dk_at dksX3_isKept_0 21 rfl rfl)
theorem dX3_isKept_22 : decode cX3_isKept 22 = .ok (.ireturn, 1) := dk_172 (dk_at dksX3_isKept_0 22 rfl rfl)
abbrev cX3_row : ByteArray := prog_13_method_12_code
def yX3_row : MethodName := ⟨RX3, "row", "(II)I"⟩
def dkwX3_row_1 : List UInt8 := [104, 28, 96, 46, 167, 0, 5, 16, 254, 172]
abbrev dktX3_row_1 : List UInt8 := dkwX3_row_1 ++ []
def dkwX3_row_0 : List UInt8 := [42, 27, 182, 0, 135, 153, 0, 26, 42, 180, 0, 27, 42, 180, 0, 94, 4, 100, 27, 100, 16, 60, 112, 7]
abbrev dktX3_row_0 : List UInt8 := dkwX3_row_0 ++ dktX3_row_1
theorem dksX3_row_0 : cX3_row.data.toList.drop 0 = dktX3_row_0 := by decide +kernel
theorem dksX3_row_1 : cX3_row.data.toList.drop 24 = dktX3_row_1 := dk_seg dksX3_row_0 24 rfl rfl
theorem dX3_row_0 : decode cX3_row 0 = .ok (.aload_n 0, 1) := dk_42 (dk_at dksX3_row_0 0 rfl rfl)
theorem dX3_row_1 : decode cX3_row 1 = .ok (.iload_n 1, 1) := dk_27 (dk_at dksX3_row_0 1 rfl rfl)
theorem dX3_row_2 : decode cX3_row 2 = .ok (.invokevirtual 135, 3) := dk_182 0 135 (dk_at dksX3_row_0 2 rfl rfl)
theorem dX3_row_5 : decode cX3_row 5 = .ok (.ifCond .eq 26, 3) := dk_153 0 26 (dk_at dksX3_row_0 5 rfl rfl)
theorem dX3_row_8 : decode cX3_row 8 = .ok (.aload_n 0, 1) := dk_42 (dk_at dksX3_row_0 8 rfl rfl)
theorem dX3_row_9 : decode cX3_row 9 = .ok (.getfield 27, 3) := dk_180 0 27 (dk_at dksX3_row_0 9 rfl rfl)
theorem dX3_row_12 : decode cX3_row 12 = .ok (.aload_n 0, 1) := dk_42 (dk_at dksX3_row_0 12 rfl rfl)
theorem dX3_row_13 : decode cX3_row 13 = .ok (.getfield 94, 3) := dk_180 0 94 (dk_at dksX3_row_0 13 rfl rfl)
theorem dX3_row_16 : decode cX3_row 16 = .ok (.iconst 1, 1) := dk_4 (dk_at dksX3_row_0 16 rfl rfl)
theorem dX3_row_17 : decode cX3_row 17 = .ok (.isub, 1) := dk_100 (dk_at dksX3_row_0 17 rfl rfl)
theorem dX3_row_18 : decode cX3_row 18 = .ok (.iload_n 1, 1) := dk_27 (dk_at dksX3_row_0 18 rfl rfl)
theorem dX3_row_19 : decode cX3_row 19 = .ok (.isub, 1) := dk_100 (dk_at dksX3_row_0 19 rfl rfl)
theorem dX3_row_20 : decode cX3_row 20 = .ok (.bipush 60, 2) := dk_16 60 (dk_at dksX3_row_0 20 rfl rfl)
theorem dX3_row_22 : decode cX3_row 22 = .ok (.irem, 1) := dk_112 (dk_at dksX3_row_0 22 rfl rfl)
theorem dX3_row_23 : decode cX3_row 23 = .ok (.iconst 4, 1) := dk_7 (dk_at dksX3_row_0 23 rfl rfl)
theorem dX3_row_24 : decode cX3_row 24 = .ok (.imul, 1) := dk_104 (dk_at dksX3_row_1 0 rfl rfl)
theorem dX3_row_25 : decode cX3_row 25 = .ok (.iload_n 2, 1) := dk_28 (dk_at dksX3_row_1 1 rfl rfl)
theorem dX3_row_26 : decode cX3_row 26 = .ok (.iadd, 1) := dk_96 (dk_at dksX3_row_1 2 rfl rfl)
theorem dX3_row_27 : decode cX3_row 27 = .ok (.iaload, 1) := dk_46 (dk_at dksX3_row_1 3 rfl rfl)
theorem dX3_row_28 : decode cX3_row 28 = .ok (.goto 5, 3) := dk_167 0 5 (dk_at dksX3_row_1 4 rfl rfl)
theorem dX3_row_31 : decode cX3_row 31 = .ok (.bipush (-2), 2) := dk_16 254 (dk_at dksX3_row_1 7 rfl rfl)
theorem dX3_row_33 : decode cX3_row 33 = .ok (.ireturn, 1) := dk_172 (dk_at dksX3_row_1 9 rfl rfl)
theorem q154 : (Jvm.Cond.initialized "GuestView$State") ∈ lw_all := lw_g (lw_at lw_m1 3 rfl) rfl
theorem q227 : (Jvm.Cond.instantiable "GuestView$State" (20 : Nat)) ∈ lw_all := lw_g (lw_at lw_m1 76 rfl) rfl
theorem q229 : (Jvm.Cond.instanceMethod ({ cls := "GuestView$State", name := "<init>", desc := "()V" } : Jvm.MethodName)) ∈ lw_all := lw_g (lw_at lw_m1 78 rfl) rfl
theorem q230 : (Jvm.Cond.code ({ cls := "GuestView$State", name := "<init>", desc := "()V" } : Jvm.MethodName) prog_13_method_1_code (2 : Nat) (Option.none : Option Jvm.ClassFile.FieldType)) ∈ lw_all := lw_g (lw_at lw_m1 79 rfl) rfl
theorem q231 : (Jvm.Cond.methodLink "GuestView$State" (3 : Nat) ({ cls := "java/lang/Object", name := "<init>", desc := "()V" } : Jvm.MethodName)) ∈ lw_all := lw_g (lw_at lw_m1 80 rfl) rfl
theorem q232 : (Jvm.Cond.classLink "GuestView$State" (9 : Nat) "GuestView$Op") ∈ lw_all := lw_g (lw_at lw_m1 81 rfl) rfl
theorem q234 : (Jvm.Cond.classLink "GuestView$State" (17 : Nat) "GuestView$Line") ∈ lw_all := lw_g (lw_at lw_m1 83 rfl) rfl
theorem q235 : (Jvm.Cond.classLink "GuestView$State" (36 : Nat) "GuestView$Guest") ∈ lw_all := lw_g (lw_at lw_m1 84 rfl) rfl
theorem q237 : (Jvm.Cond.methodLinkNest "GuestView$State" (38 : Nat) ({ cls := "GuestView$Guest", name := "<init>", desc := "()V" } : Jvm.MethodName) "GuestView") ∈ lw_tbl := lw_at lw_m1 86 rfl
theorem q255 : (Jvm.Cond.fieldLinkNest "GuestView$State" (171 : Nat) "GuestView$Machine" "mode" "I" "GuestView") ∈ lw_tbl := lw_at lw_m1 104 rfl
theorem q259 : (Jvm.Cond.fieldLinkNest "GuestView$State" (174 : Nat) "GuestView$Machine" "base" "I" "GuestView") ∈ lw_tbl := lw_at lw_m1 108 rfl
theorem q265 : (Jvm.Cond.fieldLinkNest "GuestView$State" (159 : Nat) "GuestView$Machine" "offset" "I" "GuestView") ∈ lw_tbl := lw_at lw_m1 114 rfl
theorem q287 : (Jvm.Cond.fieldLinkNest "GuestView$State" (145 : Nat) "GuestView$Guest" "machine" "LGuestView$Machine;" "GuestView") ∈ lw_tbl := lw_at lw_m1 136 rfl
theorem q290 : (Jvm.Cond.fieldLinkNest "GuestView$State" (138 : Nat) "GuestView$Guest" "pc" "I" "GuestView") ∈ lw_tbl := lw_at lw_m1 139 rfl
theorem q293 : (Jvm.Cond.fieldLinkNest "GuestView$State" (177 : Nat) "GuestView$Guest" "shift" "I" "GuestView") ∈ lw_tbl := lw_at lw_m1 142 rfl
theorem q302 : (Jvm.Cond.methodLinkNest "GuestView$State" (59 : Nat) ({ cls := "GuestView$Op", name := "<init>", desc := "()V" } : Jvm.MethodName) "GuestView") ∈ lw_tbl := lw_at lw_m1 151 rfl
theorem q315 : (Jvm.Cond.fieldLinkNest "GuestView$State" (102 : Nat) "GuestView$Op" "many" "I" "GuestView") ∈ lw_tbl := lw_at lw_m1 164 rfl
theorem q320 : (Jvm.Cond.fieldLinkNest "GuestView$State" (111 : Nat) "GuestView$Op" "guarded" "Z" "GuestView") ∈ lw_tbl := lw_at lw_m1 169 rfl
theorem q324 : (Jvm.Cond.fieldLinkNest "GuestView$State" (115 : Nat) "GuestView$Op" "patched" "Z" "GuestView") ∈ lw_tbl := lw_at lw_m1 173 rfl
theorem q339 : (Jvm.Cond.fieldLink "GuestView$State" (11 : Nat) "GuestView$State" "ops" "[LGuestView$Op;") ∈ lw_all := lw_g (lw_at lw_m1 188 rfl) rfl
theorem q342 : (Jvm.Cond.fieldLink "GuestView$State" (19 : Nat) "GuestView$State" "law" "[LGuestView$Line;") ∈ lw_all := lw_g (lw_at lw_m1 191 rfl) rfl
theorem q344 : (Jvm.Cond.fieldLink "GuestView$State" (23 : Nat) "GuestView$State" "facts" "[I") ∈ lw_all := lw_g (lw_at lw_m1 193 rfl) rfl
theorem q345 : (Jvm.Cond.fieldLink "GuestView$State" (27 : Nat) "GuestView$State" "rows" "[I") ∈ lw_all := lw_g (lw_at lw_m1 194 rfl) rfl
theorem q346 : (Jvm.Cond.fieldLink "GuestView$State" (30 : Nat) "GuestView$State" "program" "[I") ∈ lw_all := lw_g (lw_at lw_m1 195 rfl) rfl
theorem q349 : (Jvm.Cond.fieldLink "GuestView$State" (33 : Nat) "GuestView$State" "first" "[I") ∈ lw_all := lw_g (lw_at lw_m1 198 rfl) rfl
theorem q352 : (Jvm.Cond.fieldLink "GuestView$State" (39 : Nat) "GuestView$State" "bare" "LGuestView$Guest;") ∈ lw_all := lw_g (lw_at lw_m1 201 rfl) rfl
theorem q354 : (Jvm.Cond.fieldLink "GuestView$State" (43 : Nat) "GuestView$State" "hosted" "LGuestView$Guest;") ∈ lw_all := lw_g (lw_at lw_m1 203 rfl) rfl
theorem q356 : (Jvm.Cond.fieldLink "GuestView$State" (60 : Nat) "GuestView$State" "many" "I") ∈ lw_all := lw_g (lw_at lw_m1 205 rfl) rfl
theorem q359 : (Jvm.Cond.fieldLink "GuestView$State" (76 : Nat) "GuestView$State" "programMany" "I") ∈ lw_all := lw_g (lw_at lw_m1 208 rfl) rfl
theorem q362 : (Jvm.Cond.fieldLink "GuestView$State" (46 : Nat) "GuestView$State" "lawMany" "I") ∈ lw_all := lw_g (lw_at lw_m1 211 rfl) rfl
theorem q364 : (Jvm.Cond.fieldLink "GuestView$State" (79 : Nat) "GuestView$State" "texts" "I") ∈ lw_all := lw_g (lw_at lw_m1 213 rfl) rfl
theorem q366 : (Jvm.Cond.fieldLink "GuestView$State" (82 : Nat) "GuestView$State" "vector" "I") ∈ lw_all := lw_g (lw_at lw_m1 215 rfl) rfl
theorem q369 : (Jvm.Cond.fieldLink "GuestView$State" (50 : Nat) "GuestView$State" "shift" "I") ∈ lw_all := lw_g (lw_at lw_m1 218 rfl) rfl
theorem q372 : (Jvm.Cond.fieldLink "GuestView$State" (53 : Nat) "GuestView$State" "cost" "I") ∈ lw_all := lw_g (lw_at lw_m1 221 rfl) rfl
theorem q375 : (Jvm.Cond.fieldLink "GuestView$State" (85 : Nat) "GuestView$State" "alarm" "I") ∈ lw_all := lw_g (lw_at lw_m1 224 rfl) rfl
theorem q378 : (Jvm.Cond.fieldLink "GuestView$State" (88 : Nat) "GuestView$State" "tick" "I") ∈ lw_all := lw_g (lw_at lw_m1 227 rfl) rfl
theorem q380 : (Jvm.Cond.fieldLink "GuestView$State" (91 : Nat) "GuestView$State" "purse" "I") ∈ lw_all := lw_g (lw_at lw_m1 229 rfl) rfl
theorem q383 : (Jvm.Cond.fieldLink "GuestView$State" (56 : Nat) "GuestView$State" "seed" "I") ∈ lw_all := lw_g (lw_at lw_m1 232 rfl) rfl
theorem q385 : (Jvm.Cond.fieldLink "GuestView$State" (94 : Nat) "GuestView$State" "rowMany" "I") ∈ lw_all := lw_g (lw_at lw_m1 234 rfl) rfl
theorem q387 : (Jvm.Cond.laysFinal "GuestView$State" "GuestView$State" "ops" "[LGuestView$Op;") ∈ lw_all := lw_g (lw_at lw_m1 236 rfl) rfl
theorem q388 : (Jvm.Cond.soleField "GuestView$State" "ops") ∈ lw_all := lw_g (lw_at lw_m1 237 rfl) rfl
theorem q389 : (Jvm.Cond.laysFinal "GuestView$State" "GuestView$State" "law" "[LGuestView$Line;") ∈ lw_all := lw_g (lw_at lw_m1 238 rfl) rfl
theorem q390 : (Jvm.Cond.soleField "GuestView$State" "law") ∈ lw_all := lw_g (lw_at lw_m1 239 rfl) rfl
theorem q391 : (Jvm.Cond.laysFinal "GuestView$State" "GuestView$State" "facts" "[I") ∈ lw_all := lw_g (lw_at lw_m2 0 rfl) rfl
theorem q392 : (Jvm.Cond.soleField "GuestView$State" "facts") ∈ lw_all := lw_g (lw_at lw_m2 1 rfl) rfl
theorem q393 : (Jvm.Cond.laysFinal "GuestView$State" "GuestView$State" "rows" "[I") ∈ lw_all := lw_g (lw_at lw_m2 2 rfl) rfl
theorem q394 : (Jvm.Cond.soleField "GuestView$State" "rows") ∈ lw_all := lw_g (lw_at lw_m2 3 rfl) rfl
theorem q395 : (Jvm.Cond.laysFinal "GuestView$State" "GuestView$State" "program" "[I") ∈ lw_all := lw_g (lw_at lw_m2 4 rfl) rfl
theorem q396 : (Jvm.Cond.soleField "GuestView$State" "program") ∈ lw_all := lw_g (lw_at lw_m2 5 rfl) rfl
theorem q397 : (Jvm.Cond.laysFinal "GuestView$State" "GuestView$State" "first" "[I") ∈ lw_all := lw_g (lw_at lw_m2 6 rfl) rfl
theorem q398 : (Jvm.Cond.soleField "GuestView$State" "first") ∈ lw_all := lw_g (lw_at lw_m2 7 rfl) rfl
theorem q399 : (Jvm.Cond.laysFinal "GuestView$State" "GuestView$State" "bare" "LGuestView$Guest;") ∈ lw_all := lw_g (lw_at lw_m2 8 rfl) rfl
theorem q400 : (Jvm.Cond.soleField "GuestView$State" "bare") ∈ lw_all := lw_g (lw_at lw_m2 9 rfl) rfl
theorem q401 : (Jvm.Cond.laysFinal "GuestView$State" "GuestView$State" "hosted" "LGuestView$Guest;") ∈ lw_all := lw_g (lw_at lw_m2 10 rfl) rfl
theorem q402 : (Jvm.Cond.soleField "GuestView$State" "hosted") ∈ lw_all := lw_g (lw_at lw_m2 11 rfl) rfl
theorem q403 : (Jvm.Cond.lays "GuestView$State" "GuestView$State" "many" "I") ∈ lw_all := lw_g (lw_at lw_m2 12 rfl) rfl
theorem q404 : (Jvm.Cond.soleField "GuestView$State" "many") ∈ lw_all := lw_g (lw_at lw_m2 13 rfl) rfl
theorem q405 : (Jvm.Cond.lays "GuestView$State" "GuestView$State" "programMany" "I") ∈ lw_all := lw_g (lw_at lw_m2 14 rfl) rfl
theorem q406 : (Jvm.Cond.soleField "GuestView$State" "programMany") ∈ lw_all := lw_g (lw_at lw_m2 15 rfl) rfl
theorem q407 : (Jvm.Cond.lays "GuestView$State" "GuestView$State" "lawMany" "I") ∈ lw_all := lw_g (lw_at lw_m2 16 rfl) rfl
theorem q408 : (Jvm.Cond.soleField "GuestView$State" "lawMany") ∈ lw_all := lw_g (lw_at lw_m2 17 rfl) rfl
theorem q409 : (Jvm.Cond.lays "GuestView$State" "GuestView$State" "texts" "I") ∈ lw_all := lw_g (lw_at lw_m2 18 rfl) rfl
theorem q410 : (Jvm.Cond.soleField "GuestView$State" "texts") ∈ lw_all := lw_g (lw_at lw_m2 19 rfl) rfl
theorem q411 : (Jvm.Cond.lays "GuestView$State" "GuestView$State" "vector" "I") ∈ lw_all := lw_g (lw_at lw_m2 20 rfl) rfl
theorem q412 : (Jvm.Cond.soleField "GuestView$State" "vector") ∈ lw_all := lw_g (lw_at lw_m2 21 rfl) rfl
theorem q413 : (Jvm.Cond.lays "GuestView$State" "GuestView$State" "shift" "I") ∈ lw_all := lw_g (lw_at lw_m2 22 rfl) rfl
theorem q414 : (Jvm.Cond.soleField "GuestView$State" "shift") ∈ lw_all := lw_g (lw_at lw_m2 23 rfl) rfl
theorem q415 : (Jvm.Cond.lays "GuestView$State" "GuestView$State" "cost" "I") ∈ lw_all := lw_g (lw_at lw_m2 24 rfl) rfl
theorem q416 : (Jvm.Cond.soleField "GuestView$State" "cost") ∈ lw_all := lw_g (lw_at lw_m2 25 rfl) rfl
theorem q417 : (Jvm.Cond.lays "GuestView$State" "GuestView$State" "alarm" "I") ∈ lw_all := lw_g (lw_at lw_m2 26 rfl) rfl
theorem q418 : (Jvm.Cond.soleField "GuestView$State" "alarm") ∈ lw_all := lw_g (lw_at lw_m2 27 rfl) rfl
theorem q419 : (Jvm.Cond.lays "GuestView$State" "GuestView$State" "tick" "I") ∈ lw_all := lw_g (lw_at lw_m2 28 rfl) rfl
theorem q420 : (Jvm.Cond.soleField "GuestView$State" "tick") ∈ lw_all := lw_g (lw_at lw_m2 29 rfl) rfl
theorem q421 : (Jvm.Cond.lays "GuestView$State" "GuestView$State" "purse" "I") ∈ lw_all := lw_g (lw_at lw_m2 30 rfl) rfl
theorem q422 : (Jvm.Cond.soleField "GuestView$State" "purse") ∈ lw_all := lw_g (lw_at lw_m2 31 rfl) rfl
theorem q423 : (Jvm.Cond.lays "GuestView$State" "GuestView$State" "seed" "I") ∈ lw_all := lw_g (lw_at lw_m2 32 rfl) rfl
theorem q424 : (Jvm.Cond.soleField "GuestView$State" "seed") ∈ lw_all := lw_g (lw_at lw_m2 33 rfl) rfl
theorem q425 : (Jvm.Cond.lays "GuestView$State" "GuestView$State" "rowMany" "I") ∈ lw_all := lw_g (lw_at lw_m2 34 rfl) rfl
theorem q426 : (Jvm.Cond.soleField "GuestView$State" "rowMany") ∈ lw_all := lw_g (lw_at lw_m2 35 rfl) rfl
theorem q427 : (Jvm.Cond.superclass "GuestView$State" "java/lang/Object") ∈ lw_all := lw_g (lw_at lw_m2 36 rfl) rfl
theorem q545 : (Jvm.Cond.instanceMethod ({ cls := "GuestView$State", name := "boots", desc := "(LGuestView$Guest;LGuestView$Guest;)V" } : Jvm.MethodName)) ∈ lw_all := lw_g (lw_at lw_m2 154 rfl) rfl
theorem q546 : (Jvm.Cond.selects "GuestView$State" ({ cls := "GuestView$State", name := "boots", desc := "(LGuestView$Guest;LGuestView$Guest;)V" } : Jvm.MethodName) ({ cls := "GuestView$State", name := "boots", desc := "(LGuestView$Guest;LGuestView$Guest;)V" } : Jvm.MethodName)) ∈ lw_all := lw_g (lw_at lw_m2 155 rfl) rfl
theorem q547 : (Jvm.Cond.code ({ cls := "GuestView$State", name := "boots", desc := "(LGuestView$Guest;LGuestView$Guest;)V" } : Jvm.MethodName) prog_13_method_4_code (3 : Nat) (Option.none : Option Jvm.ClassFile.FieldType)) ∈ lw_all := lw_g (lw_at lw_m2 156 rfl) rfl
theorem q548 : (Jvm.Cond.methodLink "GuestView$State" (98 : Nat) ({ cls := "GuestView$Guest", name := "boots", desc := "([II)V" } : Jvm.MethodName)) ∈ lw_all := lw_g (lw_at lw_m2 157 rfl) rfl
theorem q636 : (Jvm.Cond.instanceMethod ({ cls := "GuestView$State", name := "be", desc := "(LGuestView$State;)V" } : Jvm.MethodName)) ∈ lw_all := lw_g (lw_at lw_m3 5 rfl) rfl
theorem q637 : (Jvm.Cond.selects "GuestView$State" ({ cls := "GuestView$State", name := "be", desc := "(LGuestView$State;)V" } : Jvm.MethodName) ({ cls := "GuestView$State", name := "be", desc := "(LGuestView$State;)V" } : Jvm.MethodName)) ∈ lw_all := lw_g (lw_at lw_m3 6 rfl) rfl
theorem q638 : (Jvm.Cond.code ({ cls := "GuestView$State", name := "be", desc := "(LGuestView$State;)V" } : Jvm.MethodName) prog_13_method_2_code (3 : Nat) (Option.none : Option Jvm.ClassFile.FieldType)) ∈ lw_all := lw_g (lw_at lw_m3 7 rfl) rfl
theorem q639 : (Jvm.Cond.methodLink "GuestView$State" (63 : Nat) ({ cls := "GuestView$Op", name := "be", desc := "(LGuestView$Op;)V" } : Jvm.MethodName)) ∈ lw_all := lw_g (lw_at lw_m3 8 rfl) rfl
theorem q646 : (Jvm.Cond.methodLink "GuestView$State" (67 : Nat) ({ cls := "java/lang/System", name := "arraycopy", desc := "(Ljava/lang/Object;ILjava/lang/Object;II)V" } : Jvm.MethodName)) ∈ lw_all := lw_g (lw_at lw_m3 15 rfl) rfl
theorem q647 : (Jvm.Cond.methodLink "GuestView$State" (73 : Nat) ({ cls := "GuestView$Guest", name := "be", desc := "(LGuestView$Guest;)V" } : Jvm.MethodName)) ∈ lw_all := lw_g (lw_at lw_m3 16 rfl) rfl
theorem q700 : (Jvm.Cond.instanceMethod ({ cls := "GuestView$State", name := "stepsBare", desc := "(LGuestView$Guest;)V" } : Jvm.MethodName)) ∈ lw_all := lw_g (lw_at lw_m3 69 rfl) rfl
theorem q701 : (Jvm.Cond.selects "GuestView$State" ({ cls := "GuestView$State", name := "stepsBare", desc := "(LGuestView$Guest;)V" } : Jvm.MethodName) ({ cls := "GuestView$State", name := "stepsBare", desc := "(LGuestView$Guest;)V" } : Jvm.MethodName)) ∈ lw_all := lw_g (lw_at lw_m3 70 rfl) rfl
theorem q702 : (Jvm.Cond.code ({ cls := "GuestView$State", name := "stepsBare", desc := "(LGuestView$Guest;)V" } : Jvm.MethodName) prog_13_method_14_code (3 : Nat) (Option.none : Option Jvm.ClassFile.FieldType)) ∈ lw_all := lw_g (lw_at lw_m3 71 rfl) rfl
theorem q703 : (Jvm.Cond.methodLink "GuestView$State" (141 : Nat) ({ cls := "GuestView$State", name := "opAt", desc := "(LGuestView$Guest;)I" } : Jvm.MethodName)) ∈ lw_all := lw_g (lw_at lw_m3 72 rfl) rfl
theorem q704 : (Jvm.Cond.instanceMethod ({ cls := "GuestView$State", name := "opAt", desc := "(LGuestView$Guest;)I" } : Jvm.MethodName)) ∈ lw_all := lw_g (lw_at lw_m3 73 rfl) rfl
theorem q705 : (Jvm.Cond.selects "GuestView$State" ({ cls := "GuestView$State", name := "opAt", desc := "(LGuestView$Guest;)I" } : Jvm.MethodName) ({ cls := "GuestView$State", name := "opAt", desc := "(LGuestView$Guest;)I" } : Jvm.MethodName)) ∈ lw_all := lw_g (lw_at lw_m3 74 rfl) rfl
theorem q706 : (Jvm.Cond.code ({ cls := "GuestView$State", name := "opAt", desc := "(LGuestView$Guest;)I" } : Jvm.MethodName) prog_13_method_13_code (2 : Nat) (Option.some Jvm.ClassFile.FieldType.int)) ∈ lw_all := lw_g (lw_at lw_m3 75 rfl) rfl
theorem q707 : (Jvm.Cond.methodLink "GuestView$State" (149 : Nat) ({ cls := "GuestView$Machine", name := "isTrapped", desc := "(LGuestView$Op;)Z" } : Jvm.MethodName)) ∈ lw_all := lw_g (lw_at lw_m3 76 rfl) rfl
theorem q711 : (Jvm.Cond.methodLink "GuestView$State" (155 : Nat) ({ cls := "GuestView$Guest", name := "jumps", desc := "(I)V" } : Jvm.MethodName)) ∈ lw_all := lw_g (lw_at lw_m3 80 rfl) rfl
theorem q715 : (Jvm.Cond.methodLink "GuestView$State" (162 : Nat) ({ cls := "GuestView$Machine", name := "does", desc := "(LGuestView$Op;)V" } : Jvm.MethodName)) ∈ lw_all := lw_g (lw_at lw_m3 84 rfl) rfl
theorem q727 : (Jvm.Cond.methodLink "GuestView$State" (165 : Nat) ({ cls := "GuestView$Guest", name := "goesOn", desc := "()V" } : Jvm.MethodName)) ∈ lw_all := lw_g (lw_at lw_m3 96 rfl) rfl
theorem q732 : (Jvm.Cond.methodLink "GuestView$State" (168 : Nat) ({ cls := "GuestView$Guest", name := "ages", desc := "(I)V" } : Jvm.MethodName)) ∈ lw_all := lw_g (lw_at lw_m3 101 rfl) rfl
theorem q737 : (Jvm.Cond.instanceMethod ({ cls := "GuestView$State", name := "stepsHosted", desc := "(LGuestView$Guest;)I" } : Jvm.MethodName)) ∈ lw_all := lw_g (lw_at lw_m3 106 rfl) rfl
theorem q738 : (Jvm.Cond.selects "GuestView$State" ({ cls := "GuestView$State", name := "stepsHosted", desc := "(LGuestView$Guest;)I" } : Jvm.MethodName) ({ cls := "GuestView$State", name := "stepsHosted", desc := "(LGuestView$Guest;)I" } : Jvm.MethodName)) ∈ lw_all := lw_g (lw_at lw_m3 107 rfl) rfl
theorem q739 : (Jvm.Cond.code ({ cls := "GuestView$State", name := "stepsHosted", desc := "(LGuestView$Guest;)I" } : Jvm.MethodName) prog_13_method_16_code (5 : Nat) (Option.some Jvm.ClassFile.FieldType.int)) ∈ lw_all := lw_g (lw_at lw_m3 108 rfl) rfl
theorem q740 : (Jvm.Cond.methodLink "GuestView$State" (178 : Nat) ({ cls := "GuestView$State", name := "emulation", desc := "(I)I" } : Jvm.MethodName)) ∈ lw_all := lw_g (lw_at lw_m3 109 rfl) rfl
theorem q741 : (Jvm.Cond.instanceMethod ({ cls := "GuestView$State", name := "emulation", desc := "(I)I" } : Jvm.MethodName)) ∈ lw_all := lw_g (lw_at lw_m3 110 rfl) rfl
theorem q742 : (Jvm.Cond.selects "GuestView$State" ({ cls := "GuestView$State", name := "emulation", desc := "(I)I" } : Jvm.MethodName) ({ cls := "GuestView$State", name := "emulation", desc := "(I)I" } : Jvm.MethodName)) ∈ lw_all := lw_g (lw_at lw_m3 111 rfl) rfl
theorem q743 : (Jvm.Cond.code ({ cls := "GuestView$State", name := "emulation", desc := "(I)I" } : Jvm.MethodName) prog_13_method_7_code (2 : Nat) (Option.some Jvm.ClassFile.FieldType.int)) ∈ lw_all := lw_g (lw_at lw_m3 112 rfl) rfl
theorem q744 : (Jvm.Cond.methodLink "GuestView$State" (126 : Nat) ({ cls := "GuestView$State", name := "sum", desc := "(II)I" } : Jvm.MethodName)) ∈ lw_all := lw_g (lw_at lw_m3 113 rfl) rfl
theorem q745 : (Jvm.Cond.privateMethod ({ cls := "GuestView$State", name := "sum", desc := "(II)I" } : Jvm.MethodName)) ∈ lw_tbl := lw_at lw_m3 114 rfl
theorem q746 : (Jvm.Cond.instanceMethod ({ cls := "GuestView$State", name := "sum", desc := "(II)I" } : Jvm.MethodName)) ∈ lw_all := lw_g (lw_at lw_m3 115 rfl) rfl
theorem q747 : (Jvm.Cond.code ({ cls := "GuestView$State", name := "sum", desc := "(II)I" } : Jvm.MethodName) prog_13_method_6_code (6 : Nat) (Option.some Jvm.ClassFile.FieldType.int)) ∈ lw_all := lw_g (lw_at lw_m3 116 rfl) rfl
theorem q748 : (Jvm.Cond.methodLink "GuestView$State" (103 : Nat) ({ cls := "GuestView$Op", name := "is", desc := "(I)Z" } : Jvm.MethodName)) ∈ lw_all := lw_g (lw_at lw_m3 117 rfl) rfl
theorem q749 : (Jvm.Cond.methodLink "GuestView$State" (107 : Nat) ({ cls := "GuestView$State", name := "uses", desc := "(I)I" } : Jvm.MethodName)) ∈ lw_all := lw_g (lw_at lw_m3 118 rfl) rfl
theorem q750 : (Jvm.Cond.instanceMethod ({ cls := "GuestView$State", name := "uses", desc := "(I)I" } : Jvm.MethodName)) ∈ lw_all := lw_g (lw_at lw_m3 119 rfl) rfl
theorem q751 : (Jvm.Cond.selects "GuestView$State" ({ cls := "GuestView$State", name := "uses", desc := "(I)I" } : Jvm.MethodName) ({ cls := "GuestView$State", name := "uses", desc := "(I)I" } : Jvm.MethodName)) ∈ lw_all := lw_g (lw_at lw_m3 120 rfl) rfl
theorem q752 : (Jvm.Cond.code ({ cls := "GuestView$State", name := "uses", desc := "(I)I" } : Jvm.MethodName) prog_13_method_5_code (4 : Nat) (Option.some Jvm.ClassFile.FieldType.int)) ∈ lw_all := lw_g (lw_at lw_m3 121 rfl) rfl
theorem q753 : (Jvm.Cond.methodLink "GuestView$State" (118 : Nat) ({ cls := "GuestView$Op", name := "isSensitive", desc := "()Z" } : Jvm.MethodName)) ∈ lw_all := lw_g (lw_at lw_m3 122 rfl) rfl
theorem q754 : (Jvm.Cond.methodLink "GuestView$State" (122 : Nat) ({ cls := "GuestView$Line", name := "to", desc := "(I[I)I" } : Jvm.MethodName)) ∈ lw_all := lw_g (lw_at lw_m3 123 rfl) rfl
theorem q814 : (Jvm.Cond.methodLink "GuestView$State" (181 : Nat) ({ cls := "GuestView$State", name := "letsThrough", desc := "(LGuestView$Guest;LGuestView$Op;)Z" } : Jvm.MethodName)) ∈ lw_all := lw_g (lw_at lw_m3 183 rfl) rfl
theorem q815 : (Jvm.Cond.privateMethod ({ cls := "GuestView$State", name := "letsThrough", desc := "(LGuestView$Guest;LGuestView$Op;)Z" } : Jvm.MethodName)) ∈ lw_tbl := lw_at lw_m3 184 rfl
theorem q816 : (Jvm.Cond.instanceMethod ({ cls := "GuestView$State", name := "letsThrough", desc := "(LGuestView$Guest;LGuestView$Op;)Z" } : Jvm.MethodName)) ∈ lw_all := lw_g (lw_at lw_m3 185 rfl) rfl
theorem q817 : (Jvm.Cond.code ({ cls := "GuestView$State", name := "letsThrough", desc := "(LGuestView$Guest;LGuestView$Op;)Z" } : Jvm.MethodName) prog_13_method_15_code (6 : Nat) (Option.some Jvm.ClassFile.FieldType.boolean)) ∈ lw_all := lw_g (lw_at lw_m3 186 rfl) rfl
theorem q1331 : (Jvm.Cond.instanceMethod ({ cls := "GuestView$State", name := "blame", desc := "(I)I" } : Jvm.MethodName)) ∈ lw_all := lw_g (lw_at lw_m5 220 rfl) rfl
theorem q1332 : (Jvm.Cond.selects "GuestView$State" ({ cls := "GuestView$State", name := "blame", desc := "(I)I" } : Jvm.MethodName) ({ cls := "GuestView$State", name := "blame", desc := "(I)I" } : Jvm.MethodName)) ∈ lw_all := lw_g (lw_at lw_m5 221 rfl) rfl
theorem q1333 : (Jvm.Cond.code ({ cls := "GuestView$State", name := "blame", desc := "(I)I" } : Jvm.MethodName) prog_13_method_8_code (2 : Nat) (Option.some Jvm.ClassFile.FieldType.int)) ∈ lw_all := lw_g (lw_at lw_m5 222 rfl) rfl
theorem q1335 : (Jvm.Cond.instanceMethod ({ cls := "GuestView$State", name := "worth", desc := "(I)I" } : Jvm.MethodName)) ∈ lw_all := lw_g (lw_at lw_m5 224 rfl) rfl
theorem q1336 : (Jvm.Cond.selects "GuestView$State" ({ cls := "GuestView$State", name := "worth", desc := "(I)I" } : Jvm.MethodName) ({ cls := "GuestView$State", name := "worth", desc := "(I)I" } : Jvm.MethodName)) ∈ lw_all := lw_g (lw_at lw_m5 225 rfl) rfl
theorem q1337 : (Jvm.Cond.code ({ cls := "GuestView$State", name := "worth", desc := "(I)I" } : Jvm.MethodName) prog_13_method_9_code (2 : Nat) (Option.some Jvm.ClassFile.FieldType.int)) ∈ lw_all := lw_g (lw_at lw_m5 226 rfl) rfl
theorem q1412 : (Jvm.Cond.instanceMethod ({ cls := "GuestView$State", name := "passes", desc := "(Z)Z" } : Jvm.MethodName)) ∈ lw_all := lw_g (lw_at lw_m6 61 rfl) rfl
theorem q1413 : (Jvm.Cond.selects "GuestView$State" ({ cls := "GuestView$State", name := "passes", desc := "(Z)Z" } : Jvm.MethodName) ({ cls := "GuestView$State", name := "passes", desc := "(Z)Z" } : Jvm.MethodName)) ∈ lw_all := lw_g (lw_at lw_m6 62 rfl) rfl
theorem q1414 : (Jvm.Cond.code ({ cls := "GuestView$State", name := "passes", desc := "(Z)Z" } : Jvm.MethodName) prog_13_method_18_code (6 : Nat) (Option.some Jvm.ClassFile.FieldType.boolean)) ∈ lw_all := lw_g (lw_at lw_m6 63 rfl) rfl
theorem q1415 : (Jvm.Cond.methodLink "GuestView$State" (189 : Nat) ({ cls := "GuestView$Guest", name := "isLike", desc := "(LGuestView$Guest;)Z" } : Jvm.MethodName)) ∈ lw_all := lw_g (lw_at lw_m6 64 rfl) rfl
theorem q1416 : (Jvm.Cond.methodLink "GuestView$State" (193 : Nat) ({ cls := "GuestView$State", name := "draw", desc := "(I)I" } : Jvm.MethodName)) ∈ lw_all := lw_g (lw_at lw_m6 65 rfl) rfl
theorem q1417 : (Jvm.Cond.instanceMethod ({ cls := "GuestView$State", name := "draw", desc := "(I)I" } : Jvm.MethodName)) ∈ lw_all := lw_g (lw_at lw_m6 66 rfl) rfl
theorem q1418 : (Jvm.Cond.selects "GuestView$State" ({ cls := "GuestView$State", name := "draw", desc := "(I)I" } : Jvm.MethodName) ({ cls := "GuestView$State", name := "draw", desc := "(I)I" } : Jvm.MethodName)) ∈ lw_all := lw_g (lw_at lw_m6 67 rfl) rfl
theorem q1419 : (Jvm.Cond.code ({ cls := "GuestView$State", name := "draw", desc := "(I)I" } : Jvm.MethodName) prog_13_method_3_code (2 : Nat) (Option.some Jvm.ClassFile.FieldType.int)) ∈ lw_all := lw_g (lw_at lw_m6 68 rfl) rfl
theorem q1420 : (Jvm.Cond.constant "GuestView$State" (97 : Nat) (1103515245 : Int32)) ∈ lw_all := lw_g (lw_at lw_m6 69 rfl) rfl
theorem q1421 : (Jvm.Cond.methodLink "GuestView$State" (196 : Nat) ({ cls := "GuestView$State", name := "alarms", desc := "()V" } : Jvm.MethodName)) ∈ lw_all := lw_g (lw_at lw_m6 70 rfl) rfl
theorem q1422 : (Jvm.Cond.privateMethod ({ cls := "GuestView$State", name := "alarms", desc := "()V" } : Jvm.MethodName)) ∈ lw_tbl := lw_at lw_m6 71 rfl
theorem q1423 : (Jvm.Cond.instanceMethod ({ cls := "GuestView$State", name := "alarms", desc := "()V" } : Jvm.MethodName)) ∈ lw_all := lw_g (lw_at lw_m6 72 rfl) rfl
theorem q1424 : (Jvm.Cond.code ({ cls := "GuestView$State", name := "alarms", desc := "()V" } : Jvm.MethodName) prog_13_method_17_code (1 : Nat) (Option.none : Option Jvm.ClassFile.FieldType)) ∈ lw_all := lw_g (lw_at lw_m6 73 rfl) rfl
theorem q1425 : (Jvm.Cond.methodLink "GuestView$State" (185 : Nat) ({ cls := "GuestView$State", name := "writes", desc := "(III)V" } : Jvm.MethodName)) ∈ lw_all := lw_g (lw_at lw_m6 74 rfl) rfl
theorem q1426 : (Jvm.Cond.instanceMethod ({ cls := "GuestView$State", name := "writes", desc := "(III)V" } : Jvm.MethodName)) ∈ lw_all := lw_g (lw_at lw_m6 75 rfl) rfl
theorem q1427 : (Jvm.Cond.selects "GuestView$State" ({ cls := "GuestView$State", name := "writes", desc := "(III)V" } : Jvm.MethodName) ({ cls := "GuestView$State", name := "writes", desc := "(III)V" } : Jvm.MethodName)) ∈ lw_all := lw_g (lw_at lw_m6 76 rfl) rfl
theorem q1428 : (Jvm.Cond.code ({ cls := "GuestView$State", name := "writes", desc := "(III)V" } : Jvm.MethodName) prog_13_method_10_code (5 : Nat) (Option.none : Option Jvm.ClassFile.FieldType)) ∈ lw_all := lw_g (lw_at lw_m6 77 rfl) rfl
theorem q1429 : (Jvm.Cond.methodLink "GuestView$State" (199 : Nat) ({ cls := "GuestView$State", name := "stepsBare", desc := "(LGuestView$Guest;)V" } : Jvm.MethodName)) ∈ lw_all := lw_g (lw_at lw_m6 78 rfl) rfl
theorem q1430 : (Jvm.Cond.methodLink "GuestView$State" (202 : Nat) ({ cls := "GuestView$State", name := "stepsHosted", desc := "(LGuestView$Guest;)I" } : Jvm.MethodName)) ∈ lw_all := lw_g (lw_at lw_m6 79 rfl) rfl
theorem q1431 : (Jvm.Cond.methodLink "GuestView$State" (205 : Nat) ({ cls := "GuestView$State", name := "worth", desc := "(I)I" } : Jvm.MethodName)) ∈ lw_all := lw_g (lw_at lw_m6 80 rfl) rfl
theorem q1432 : (Jvm.Cond.methodLink "GuestView$State" (130 : Nat) ({ cls := "java/lang/Math", name := "min", desc := "(II)I" } : Jvm.MethodName)) ∈ lw_all := lw_g (lw_at lw_m6 81 rfl) rfl
theorem q1637 : (Jvm.Cond.instanceMethod ({ cls := "GuestView$State", name := "isKept", desc := "(I)Z" } : Jvm.MethodName)) ∈ lw_all := lw_g (lw_at lw_m7 46 rfl) rfl
theorem q1638 : (Jvm.Cond.selects "GuestView$State" ({ cls := "GuestView$State", name := "isKept", desc := "(I)Z" } : Jvm.MethodName) ({ cls := "GuestView$State", name := "isKept", desc := "(I)Z" } : Jvm.MethodName)) ∈ lw_all := lw_g (lw_at lw_m7 47 rfl) rfl
theorem q1639 : (Jvm.Cond.code ({ cls := "GuestView$State", name := "isKept", desc := "(I)Z" } : Jvm.MethodName) prog_13_method_11_code (2 : Nat) (Option.some Jvm.ClassFile.FieldType.boolean)) ∈ lw_all := lw_g (lw_at lw_m7 48 rfl) rfl
theorem q1641 : (Jvm.Cond.instanceMethod ({ cls := "GuestView$State", name := "row", desc := "(II)I" } : Jvm.MethodName)) ∈ lw_all := lw_g (lw_at lw_m7 50 rfl) rfl
theorem q1642 : (Jvm.Cond.selects "GuestView$State" ({ cls := "GuestView$State", name := "row", desc := "(II)I" } : Jvm.MethodName) ({ cls := "GuestView$State", name := "row", desc := "(II)I" } : Jvm.MethodName)) ∈ lw_all := lw_g (lw_at lw_m7 51 rfl) rfl
theorem q1643 : (Jvm.Cond.code ({ cls := "GuestView$State", name := "row", desc := "(II)I" } : Jvm.MethodName) prog_13_method_12_code (3 : Nat) (Option.some Jvm.ClassFile.FieldType.int)) ∈ lw_all := lw_g (lw_at lw_m7 52 rfl) rfl
theorem q1644 : (Jvm.Cond.methodLink "GuestView$State" (135 : Nat) ({ cls := "GuestView$State", name := "isKept", desc := "(I)Z" } : Jvm.MethodName)) ∈ lw_all := lw_g (lw_at lw_m7 53 rfl) rfl
theorem q2441 : (Jvm.Cond.castable "GuestView$State" "java/lang/Object") ∈ lw_tbl := lw_at lw_m10 130 rfl
theorem in_X3 : ∀ w ∈ wsX30, w ∈ lw_all := lw_in wsX30 [387, 389, 391, 393, 395, 397, 399, 401, 403, 405, 407, 409, 411, 413, 415, 417, 419, 421, 423, 425] (by decide +kernel) (by decide +kernel)
