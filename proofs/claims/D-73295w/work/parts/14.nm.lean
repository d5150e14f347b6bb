/-! GuestViewModel -/
set_option maxRecDepth 100000
def RX8 : String := "GuestViewModel"
def TX8 : u_T := fun k => match k with
  | 0 => ("GuestViewModel", "thrown", "I", false)
  | 1 => ("GuestViewModel", "world", "[I", true)
  | 2 => ("GuestViewModel", "image", "[I", true)
  | 3 => ("GuestViewModel", "earlier", "[I", true)
  | 4 => ("GuestViewModel", "trial", "[I", true)
  | 5 => ("GuestViewModel", "acts", "[I", true)
  | 6 => ("GuestViewModel", "hasImage", "Z", false)
  | 7 => ("GuestViewModel", "remembered", "I", false)
  | 8 => ("GuestViewModel", "tape", "[B", true)
  | 9 => ("GuestViewModel", "taped", "I", false)
  | 10 => ("GuestViewModel", "point", "I", false)
  | 11 => ("GuestViewModel", "end", "I", false)
  | 12 => ("GuestViewModel", "begin", "I", false)
  | 13 => ("GuestViewModel", "deep", "I", false)
  | 14 => ("GuestViewModel", "faultAt", "I", false)
  | 15 => ("GuestViewModel", "five", "[I", true)
  | 16 => ("GuestViewModel", "codes", "I", false)
  | 17 => ("GuestViewModel", "cells", "[I", true)
  | 18 => ("GuestViewModel", "otherCells", "[I", true)
  | 19 => ("GuestViewModel", "reg", "I", false)
  | 20 => ("GuestViewModel", "mode", "I", false)
  | 21 => ("GuestViewModel", "base", "I", false)
  | 22 => ("GuestViewModel", "clock", "I", false)
  | 23 => ("GuestViewModel", "skipped", "Z", false)
  | 24 => ("GuestViewModel", "wasReg", "I", false)
  | 25 => ("GuestViewModel", "wasSkipped", "Z", false)
  | 26 => ("GuestViewModel", "traits", "[I", true)
  | 27 => ("GuestViewModel", "known", "[J", true)
  | 28 => ("GuestViewModel", "value", "[I", true)
  | 29 => ("GuestViewModel", "more", "[I", true)
  | 30 => ("GuestViewModel", "paired", "[I", true)
  | _ => ("GuestViewModel", "ways", "[J", true)
def tyX8 : Nat → FieldType := fun k => match k with
  | 0 => .int
  | 1 => .array .int
  | 2 => .array .int
  | 3 => .array .int
  | 4 => .array .int
  | 5 => .array .int
  | 6 => .boolean
  | 7 => .int
  | 8 => .array .byte
  | 9 => .int
  | 10 => .int
  | 11 => .int
  | 12 => .int
  | 13 => .int
  | 14 => .int
  | 15 => .array .int
  | 16 => .int
  | 17 => .array .int
  | 18 => .array .int
  | 19 => .int
  | 20 => .int
  | 21 => .int
  | 22 => .int
  | 23 => .boolean
  | 24 => .int
  | 25 => .boolean
  | 26 => .array .int
  | 27 => .array .long
  | 28 => .array .int
  | 29 => .array .int
  | 30 => .array .int
  | _ => .array .long
abbrev wsX80 : List Cond := u_ws RX8 TX8 32
set_option maxRecDepth 100000 in
theorem nmX8 : ∀ a, a < 32 → ∀ b, b < 32 → a ≠ b → (TX8 a).2.1 ≠ (TX8 b).2.1 := by decide +kernel
set_option maxRecDepth 100000 in
theorem tyX8_ok : ∀ k, k < 32 → parseFieldDescriptor (TX8 k).2.2.1 = some (tyX8 k) := by decide +kernel
abbrev cX8_thrown : ByteArray := prog_19_method_1_code
def yX8_thrown : MethodName := ⟨RX8, "thrown", "()I"⟩
theorem dX8_thrown_0 : decode cX8_thrown 0 = .ok (.aload_n 0, 1) := by decide +kernel
theorem dX8_thrown_1 : decode cX8_thrown 1 = .ok (.getfield 3, 3) := by decide +kernel
theorem dX8_thrown_4 : decode cX8_thrown 4 = .ok (.ireturn, 1) := by decide +kernel
abbrev cX8_init : ByteArray := prog_19_method_5_code
def yX8_init : MethodName := ⟨RX8, "<init>", "()V"⟩
def dkwX8_init_6 : List UInt8 := [16, 11, 4, 79, 42, 180, 0, 13, 8, 5, 79, 42, 180, 0, 13, 16, 6, 4, 79, 42, 182, 0, 64, 177]
abbrev dktX8_init_6 : List UInt8 := dkwX8_init_6 ++ []
def dkwX8_init_5 : List UInt8 := [181, 0, 55, 42, 17, 1, 0, 188, 10, 181, 0, 58, 42, 16, 6, 188, 11, 181, 0, 61, 42, 180, 0, 13]
abbrev dktX8_init_5 : List UInt8 := dkwX8_init_5 ++ dktX8_init_6
def dkwX8_init_4 : List UInt8 := [42, 16, 8, 188, 11, 181, 0, 48, 42, 17, 1, 144, 188, 10, 181, 0, 52, 42, 16, 81, 188, 10]
abbrev dktX8_init_4 : List UInt8 := dkwX8_init_4 ++ dktX8_init_5
def dkwX8_init_3 : List UInt8 := [42, 16, 8, 188, 10, 181, 0, 39, 42, 16, 8, 188, 10, 181, 0, 42, 42, 16, 8, 188, 10, 181, 0, 45]
abbrev dktX8_init_3 : List UInt8 := dkwX8_init_3 ++ dktX8_init_4
def dkwX8_init_2 : List UInt8 := [181, 0, 26, 42, 17, 1, 144, 188, 8, 181, 0, 29, 42, 2, 181, 0, 33, 42, 8, 188, 10, 181, 0, 36]
abbrev dktX8_init_2 : List UInt8 := dkwX8_init_2 ++ dktX8_init_3
def dkwX8_init_1 : List UInt8 := [17, 4, 193, 188, 10, 181, 0, 20, 42, 17, 1, 112, 188, 10, 181, 0, 23, 42, 17, 17, 64, 188, 10]
abbrev dktX8_init_1 : List UInt8 := dkwX8_init_1 ++ dktX8_init_2
def dkwX8_init_0 : List UInt8 := [42, 183, 0, 7, 42, 17, 8, 18, 188, 10, 181, 0, 13, 42, 17, 4, 193, 188, 10, 181, 0, 17, 42]
abbrev dktX8_init_0 : List UInt8 := dkwX8_init_0 ++ dktX8_init_1
theorem dksX8_init_0 : cX8_init.data.toList.drop 0 = dktX8_init_0 := by decide +kernel
theorem dksX8_init_1 : cX8_init.data.toList.drop 23 = dktX8_init_1 := dk_seg dksX8_init_0 23 rfl rfl
theorem dksX8_init_2 : cX8_init.data.toList.drop 46 = dktX8_init_2 := dk_seg dksX8_init_1 23 rfl rfl
theorem dksX8_init_3 : cX8_init.data.toList.drop 70 = dktX8_init_3 := dk_seg dksX8_init_2 24 rfl rfl
theorem dksX8_init_4 : cX8_init.data.toList.drop 94 = dktX8_init_4 := dk_seg dksX8_init_3 24 rfl rfl
theorem dksX8_init_5 : cX8_init.data.toList.drop 116 = dktX8_init_5 := dk_seg dksX8_init_4 22 rfl rfl
theorem dksX8_init_6 : cX8_init.data.toList.drop 140 = dktX8_init_6 := dk_seg dksX8_init_5 24 rfl rfl
theorem dX8_init_0 : decode cX8_init 0 = .ok (.aload_n 0, 1) := dk_42 (dk_at dksX8_init_0 0 rfl rfl)
theorem dX8_init_1 : decode cX8_init 1 = .ok (.invokespecial 7, 3) := dk_183 0 7 (dk_at dksX8_init_0 1 rfl rfl)
theorem dX8_init_4 : decode cX8_init 4 = .ok (.aload_n 0, 1) := dk_42 (dk_at dksX8_init_0 4 rfl rfl)
theorem dX8_init_5 : decode cX8_init 5 = .ok (.sipush 2066, 3) := dk_17 8 18 (dk_at dksX8_init_0 5 rfl rfl)
theorem dX8_init_8 : decode cX8_init 8 = .ok (.newarray .int, 2) := dk_188_10 (dk_at dksX8_init_0 8 rfl rfl)
theorem dX8_init_10 : decode cX8_init 10 = .ok (.putfield 13, 3) := dk_181 0 13 (dk_at dksX8_init_0 10 rfl rfl)
theorem dX8_init_13 : decode cX8_init 13 = .ok (.aload_n 0, 1) := dk_42 (dk_at dksX8_init_0 13 rfl rfl)
theorem dX8_init_14 : decode cX8_init 14 = .ok (.sipush 1217, 3) := dk_17 4 193 (dk_at dksX8_init_0 14 rfl rfl)
theorem dX8_init_17 : decode cX8_init 17 = .ok (.newarray .int, 2) := dk_188_10 (dk_at dksX8_init_0 17 rfl rfl)
theorem dX8_init_19 : decode cX8_init 19 = .ok (.putfield 17, 3) := dk_181 0 17 (dk_at dksX8_init_0 19 rfl rfl)
theorem dX8_init_22 : decode cX8_init 22 = .ok (.aload_n 0, 1) := dk_42 (dk_at dksX8_init_0 22 rfl rfl)
theorem dX8_init_23 : decode cX8_init 23 = .ok (.sipush 1217, 3) := dk_17 4 193 (dk_at dksX8_init_1 0 rfl rfl)
theorem dX8_init_26 : decode cX8_init 26 = .ok (.newarray .int, 2) := dk_188_10 (dk_at dksX8_init_1 3 rfl rfl)
theorem dX8_init_28 : decode cX8_init 28 = .ok (.putfield 20, 3) := dk_181 0 20 (dk_at dksX8_init_1 5 rfl rfl)
theorem dX8_init_31 : decode cX8_init 31 = .ok (.aload_n 0, 1) := dk_42 (dk_at dksX8_init_1 8 rfl rfl)
theorem dX8_init_32 : decode cX8_init 32 = .ok (.sipush 368, 3) := dk_17 1 112 (dk_at dksX8_init_1 9 rfl rfl)
theorem dX8_init_35 : decode cX8_init 35 = .ok (.newarray .int, 2) := dk_188_10 (dk_at dksX8_init_1 12 rfl rfl)
theorem dX8_init_37 : decode cX8_init 37 = .ok (.putfield 23, 3) := dk_181 0 23 (dk_at dksX8_init_1 14 rfl rfl)
theorem dX8_init_40 : decode cX8_init 40 = .ok (.aload_n 0, 1) := dk_42 (dk_at dksX8_init_1 17 rfl rfl)
theorem dX8_init_41 : decode cX8_init 41 = .ok (.sipush 4416, 3) := dk_17 17 64 (dk_at dksX8_init_1 18 rfl rfl)
theorem dX8_init_44 : decode cX8_init 44 = .ok (.newarray .int, 2) := dk_188_10 (dk_at dksX8_init_1 21 rfl rfl)
theorem dX8_init_46 : decode cX8_init 46 = .ok (.putfield 26, 3) := dk_181 0 26 (dk_at dksX8_init_2 0 rfl rfl)
theorem dX8_init_49 : decode cX8_init 49 = .ok (.aload_n 0, 1) := dk_42 (dk_at dksX8_init_2 3 rfl rfl)
theorem dX8_init_50 : decode cX8_init 50 = .ok (.sipush 400, 3) := dk_17 1 144 (dk_at dksX8_init_2 4 rfl rfl)
theorem dX8_init_53 : decode cX8_init 53 = .ok (.newarray .byte, 2) := dk_188_8 (dk_at dksX8_init_2 7 rfl rfl)
theorem dX8_init_55 : decode cX8_init 55 = .ok (.putfield 29, 3) := dk_181 0 29 (dk_at dksX8_init_2 9 rfl rfl)
theorem dX8_init_58 : decode cX8_init 58 = .ok (.aload_n 0, 1) := dk_42 (dk_at dksX8_init_2 12 rfl rfl)
theorem dX8_init_59 : decode cX8_init 59 = .ok (.iconst (-1), 1) := dk_2 (dk_at dksX8_init_2 13 rfl rfl)
theorem dX8_init_60 : decode cX8_init 60 = .ok (.putfield 33, 3) := dk_181 0 33 (dk_at dksX8_init_2 14 rfl rfl)
theorem dX8_init_63 : decode cX8_init 63 = .ok (.aload_n 0, 1) := dk_42 (dk_at dksX8_init_2 17 rfl rfl)
theorem dX8_init_64 : decode cX8_init 64 = .ok (.iconst 5, 1) := dk_8 (dk_at dksX8_init_2 18 rfl rfl)
theorem dX8_init_65 : decode cX8_init 65 = .ok (.newarray .int, 2) := dk_188_10 (dk_at dksX8_init_2 19 rfl rfl)
theorem dX8_init_67 : decode cX8_init 67 = .ok (.putfield 36, 3) := dk_181 0 36 (dk_at dksX8_init_2 21 rfl rfl)
theorem dX8_init_70 : decode cX8_init 70 = .ok (.aload_n 0, 1) := dk_42 (dk_at dksX8_init_3 0 rfl rfl)
theorem dX8_init_71 : decode cX8_init 71 = .ok (.bipush 8, 2) := dk_16 8 (dk_at dksX8_init_3 1 rfl rfl)
theorem dX8_init_73 : decode cX8_init 73 = .ok (.newarray .int, 2) := dk_188_10 (dk_at dksX8_init_3 3 rfl rfl)
theorem dX8_init_75 : decode cX8_init 75 = .ok (.putfield 39, 3) := dk_181 0 39 (dk_at dksX8_init_3 5 rfl rfl)
theorem dX8_init_78 : decode cX8_init 78 = .ok (.aload_n 0, 1) := dk_42 (dk_at dksX8_init_3 8 rfl rfl)
theorem dX8_init_79 : decode cX8_init 79 = .ok (.bipush 8, 2) := dk_16 8 (dk_at dksX8_init_3 9 rfl rfl)
theorem dX8_init_81 : decode cX8_init 81 = .ok (.newarray .int, 2) := dk_188_10 (dk_at dksX8_init_3 11 rfl rfl)
theorem dX8_init_83 : decode cX8_init 83 = .ok (.putfield 42, 3) := dk_181 0 42 (dk_at dksX8_init_3 13 rfl rfl)
theorem dX8_init_86 : decode cX8_init 86 = .ok (.aload_n 0, 1) := dk_42 (dk_at dksX8_init_3 16 rfl rfl)
theorem dX8_init_87 : decode cX8_init 87 = .ok (.bipush 8, 2) := dk_16 8 (dk_at dksX8_init_3 17 rfl rfl)
theorem dX8_init_89 : decode cX8_init 89 = .ok (.newarray .int, 2) := dk_188_10 (dk_at dksX8_init_3 19 rfl rfl)
theorem dX8_init_91 : decode cX8_init 91 = .ok (.putfield 45, 3) := dk_181 0 45 (dk_at dksX8_init_3 21 rfl rfl)
theorem dX8_init_94 : decode cX8_init 94 = .ok (.aload_n 0, 1) := dk_42 (dk_at dksX8_init_4 0 rfl rfl)
theorem dX8_init_95 : decode cX8_init 95 = .ok (.bipush 8, 2) := dk_16 8 (dk_at dksX8_init_4 1 rfl rfl)
theorem dX8_init_97 : decode cX8_init 97 = .ok (.newarray .long, 2) := dk_188_11 (dk_at dksX8_init_4 3 rfl rfl)
theorem dX8_init_99 : decode cX8_init 99 = .ok (.putfield 48, 3) := dk_181 0 48 (dk_at dksX8_init_4 5 rfl rfl)
theorem dX8_init_102 : decode cX8_init 102 = .ok (.aload_n 0, 1) := dk_42 (dk_at dksX8_init_4 8 rfl rfl)
theorem dX8_init_103 : decode cX8_init 103 = .ok (.sipush 400, 3) := dk_17 1 144 (dk_at dksX8_init_4 9 rfl rfl)
theorem dX8_init_106 : decode cX8_init 106 = .ok (.newarray .int, 2) := dk_188_10 (dk_at dksX8_init_4 12 rfl rfl)
theorem dX8_init_108 : decode cX8_init 108 = .ok (.putfield 52, 3) := dk_181 0 52 (dk_at dksX8_init_4 14 rfl rfl)
theorem dX8_init_111 : decode cX8_init 111 = .ok (.aload_n 0, 1) := dk_42 (dk_at dksX8_init_4 17 rfl rfl)
theorem dX8_init_112 : decode cX8_init 112 = .ok (.bipush 81, 2) := dk_16 81 (dk_at dksX8_init_4 18 rfl rfl)
theorem dX8_init_114 : decode cX8_init 114 = .ok (.newarray .int, 2) := dk_188_10 (dk_at dksX8_init_4 20 rfl rfl)
theorem dX8_init_116 : decode cX8_init 116 = .ok (.putfield 55, 3) := dk_181 0 55 (dk_at dksX8_init_5 0 rfl rfl)
theorem dX8_init_119 : decode cX8_init 119 = .ok (.aload_n 0, 1) := dk_42 (dk_at dksX8_init_5 3 rfl rfl)
theorem dX8_init_120 : decode cX8_init 120 = .ok (.sipush 256, 3) := dk_17 1 0 (dk_at dksX8_init_5 4 rfl rfl)
theorem dX8_init_123 : decode cX8_init 123 = .ok (.newarray .int, 2) := dk_188_10 (dk_at dksX8_init_5 7 rfl rfl)
theorem dX8_init_125 : decode cX8_init 125 = .ok (.putfield 58, 3) := dk_181 0 58 (dk_at dksX8_init_5 9 rfl rfl)
theorem dX8_init_128 : decode cX8_init 128 = .ok (.aload_n 0, 1) := dk_42 (dk_at dksX8_init_5 12 rfl rfl)
theorem dX8_init_129 : decode cX8_init 129 = .ok (.bipush 6, 2) := dk_16 6 (dk_at dksX8_init_5 13 rfl rfl)
theorem dX8_init_131 : decode cX8_init 131 = .ok (.newarray .long, 2) := dk_188_11 (dk_at dksX8_init_5 15 rfl rfl)
theorem dX8_init_133 : decode cX8_init 133 = .ok (.putfield 61, 3) := dk_181 0 61 (dk_at dksX8_init_5 17 rfl rfl)
theorem dX8_init_136 : decode cX8_init 136 = .ok (.aload_n 0, 1) := dk_42 (dk_at dksX8_init_5 20 rfl rfl)
theorem dX8_init_137 : decode cX8_init 137 = .ok (.getfield 13, 3) := dk_180 0 13 (dk_at dksX8_init_5 21 rfl rfl)
theorem dX8_init_140 : decode cX8_init 140 = .ok (.bipush 11, 2) := dk_16 11 (dk_at dksX8_init_6 0 rfl rfl)
theorem dX8_init_142 : decode cX8_init 142 = .ok (.iconst 1, 1) := dk_4 (dk_at dksX8_init_6 2 rfl rfl)
theorem dX8_init_143 : decode cX8_init 143 = .ok (.iastore, 1) := dk_79 (dk_at dksX8_init_6 3 rfl rfl)
theorem dX8_init_144 : decode cX8_init 144 = .ok (.aload_n 0, 1) := dk_42 (dk_at dksX8_init_6 4 rfl rfl)
theorem dX8_init_145 : decode cX8_init 145 = .ok (.getfield 13, 3) := dk_180 0 13 (dk_at dksX8_init_6 5 rfl rfl)
theorem dX8_init_148 : decode cX8_init 148 = .ok (.iconst 5, 1) := dk_8 (dk_at dksX8_init_6 8 rfl rfl)
theorem dX8_init_149 : decode cX8_init 149 = .ok (.iconst 2, 1) := dk_5 (dk_at dksX8_init_6 9 rfl rfl)
theorem dX8_init_150 : decode cX8_init 150 = .ok (.iastore, 1) := dk_79 (dk_at dksX8_init_6 10 rfl rfl)
theorem dX8_init_151 : decode cX8_init 151 = .ok (.aload_n 0, 1) := dk_42 (dk_at dksX8_init_6 11 rfl rfl)
theorem dX8_init_152 : decode cX8_init 152 = .ok (.getfield 13, 3) := dk_180 0 13 (dk_at dksX8_init_6 12 rfl rfl)
theorem dX8_init_155 : decode cX8_init 155 = .ok (.bipush 6, 2) := dk_16 6 (dk_at dksX8_init_6 15 rfl rfl)
theorem dX8_init_157 : decode cX8_init 157 = .ok (.iconst 1, 1) := dk_4 (dk_at dksX8_init_6 17 rfl rfl)
theorem dX8_init_158 : decode cX8_init 158 = .ok (.iastore, 1) := dk_79 (dk_at dksX8_init_6 18 rfl rfl)
theorem dX8_init_159 : decode cX8_init 159 = .ok (.aload_n 0, 1) := dk_42 (dk_at dksX8_init_6 19 rfl rfl)
theorem dX8_init_160 : decode cX8_init 160 = .ok (.invokevirtual 64, 3) := dk_182 0 64 (dk_at dksX8_init_6 20 rfl rfl)
theorem dX8_init_163 : decode cX8_init 163 = .ok (.return_, 1) := dk_177 (dk_at dksX8_init_6 23 rfl rfl)
abbrev cX8_bothBoot : ByteArray := prog_19_method_21_code
def yX8_bothBoot : MethodName := ⟨RX8, "bothBoot", "()V"⟩
def dkwX8_bothBoot_3 : List UInt8 := [167, 255, 226, 132, 1, 1, 167, 255, 180, 177]
abbrev dktX8_bothBoot_3 : List UInt8 := dkwX8_bothBoot_3 ++ []
def dkwX8_bothBoot_2 : List UInt8 := [42, 180, 0, 13, 27, 8, 28, 96, 184, 0, 81, 42, 180, 0, 13, 16, 22, 28, 96, 46, 79, 132, 2, 1]
abbrev dktX8_bothBoot_2 : List UInt8 := dkwX8_bothBoot_2 ++ dktX8_bothBoot_3
def dkwX8_bothBoot_1 : List UInt8 := [5, 160, 0, 7, 4, 167, 0, 4, 3, 79, 132, 2, 1, 167, 255, 228, 3, 61, 28, 16, 8, 162, 0, 30]
abbrev dktX8_bothBoot_1 : List UInt8 := dkwX8_bothBoot_1 ++ dktX8_bothBoot_2
def dkwX8_bothBoot_0 : List UInt8 := [3, 60, 27, 5, 162, 0, 77, 3, 61, 28, 8, 162, 0, 29, 42, 180, 0, 13, 27, 28, 184, 0, 81, 28]
abbrev dktX8_bothBoot_0 : List UInt8 := dkwX8_bothBoot_0 ++ dktX8_bothBoot_1
theorem dksX8_bothBoot_0 : cX8_bothBoot.data.toList.drop 0 = dktX8_bothBoot_0 := by decide +kernel
theorem dksX8_bothBoot_1 : cX8_bothBoot.data.toList.drop 24 = dktX8_bothBoot_1 := dk_seg dksX8_bothBoot_0 24 rfl rfl
theorem dksX8_bothBoot_2 : cX8_bothBoot.data.toList.drop 48 = dktX8_bothBoot_2 := dk_seg dksX8_bothBoot_1 24 rfl rfl
theorem dksX8_bothBoot_3 : cX8_bothBoot.data.toList.drop 72 = dktX8_bothBoot_3 := dk_seg dksX8_bothBoot_2 24 rfl rfl
theorem dX8_bothBoot_0 : decode cX8_bothBoot 0 = .ok (.iconst 0, 1) := dk_3 (dk_at dksX8_bothBoot_0 0 rfl rfl)
theorem dX8_bothBoot_1 : decode cX8_bothBoot 1 = .ok (.istore_n 1, 1) := dk_60 (dk_at dksX8_bothBoot_0 1 rfl rfl)
theorem dX8_bothBoot_2 : decode cX8_bothBoot 2 = .ok (.iload_n 1, 1) := dk_27 (dk_at dksX8_bothBoot_0 2 rfl rfl)
theorem dX8_bothBoot_3 : decode cX8_bothBoot 3 = .ok (.iconst 2, 1) := dk_5 (dk_at dksX8_bothBoot_0 3 rfl rfl)
theorem dX8_bothBoot_4 : decode cX8_bothBoot 4 = .ok (.if_icmp .ge 77, 3) := dk_162 0 77 (dk_at dksX8_bothBoot_0 4 rfl rfl)
theorem dX8_bothBoot_7 : decode cX8_bothBoot 7 = .ok (.iconst 0, 1) := dk_3 (dk_at dksX8_bothBoot_0 7 rfl rfl)
theorem dX8_bothBoot_8 : decode cX8_bothBoot 8 = .ok (.istore_n 2, 1) := dk_61 (dk_at dksX8_bothBoot_0 8 rfl rfl)
theorem dX8_bothBoot_9 : decode cX8_bothBoot 9 = .ok (.iload_n 2, 1) := dk_28 (dk_at dksX8_bothBoot_0 9 rfl rfl)
theorem dX8_bothBoot_10 : decode cX8_bothBoot 10 = .ok (.iconst 5, 1) := dk_8 (dk_at dksX8_bothBoot_0 10 rfl rfl)
theorem dX8_bothBoot_11 : decode cX8_bothBoot 11 = .ok (.if_icmp .ge 29, 3) := dk_162 0 29 (dk_at dksX8_bothBoot_0 11 rfl rfl)
theorem dX8_bothBoot_14 : decode cX8_bothBoot 14 = .ok (.aload_n 0, 1) := dk_42 (dk_at dksX8_bothBoot_0 14 rfl rfl)
theorem dX8_bothBoot_15 : decode cX8_bothBoot 15 = .ok (.getfield 13, 3) := dk_180 0 13 (dk_at dksX8_bothBoot_0 15 rfl rfl)
theorem dX8_bothBoot_18 : decode cX8_bothBoot 18 = .ok (.iload_n 1, 1) := dk_27 (dk_at dksX8_bothBoot_0 18 rfl rfl)
theorem dX8_bothBoot_19 : decode cX8_bothBoot 19 = .ok (.iload_n 2, 1) := dk_28 (dk_at dksX8_bothBoot_0 19 rfl rfl)
theorem dX8_bothBoot_20 : decode cX8_bothBoot 20 = .ok (.invokestatic 81, 3) := dk_184 0 81 (dk_at dksX8_bothBoot_0 20 rfl rfl)
theorem dX8_bothBoot_23 : decode cX8_bothBoot 23 = .ok (.iload_n 2, 1) := dk_28 (dk_at dksX8_bothBoot_0 23 rfl rfl)
theorem dX8_bothBoot_24 : decode cX8_bothBoot 24 = .ok (.iconst 2, 1) := dk_5 (dk_at dksX8_bothBoot_1 0 rfl rfl)
theorem dX8_bothBoot_25 : decode cX8_bothBoot 25 = .ok (.if_icmp .ne 7, 3) := dk_160 0 7 (dk_at dksX8_bothBoot_1 1 rfl rfl)
theorem dX8_bothBoot_28 : decode cX8_bothBoot 28 = .ok (.iconst 1, 1) := dk_4 (dk_at dksX8_bothBoot_1 4 rfl rfl)
theorem dX8_bothBoot_29 : decode cX8_bothBoot 29 = .ok (.goto 4, 3) := dk_167 0 4 (dk_at dksX8_bothBoot_1 5 rfl rfl)
theorem dX8_bothBoot_32 : decode cX8_bothBoot 32 = .ok (.iconst 0, 1) := dk_3 (dk_at dksX8_bothBoot_1 8 rfl rfl)
theorem dX8_bothBoot_33 : decode cX8_bothBoot 33 = .ok (.iastore, 1) := dk_79 (dk_at dksX8_bothBoot_1 9 rfl rfl)
theorem dX8_bothBoot_34 : decode cX8_bothBoot 34 = .ok (.iinc 2 1, 3) := dk_132 2 1 (dk_at dksX8_bothBoot_1 10 rfl rfl)
theorem dX8_bothBoot_37 : decode cX8_bothBoot 37 = .ok (.goto (-28), 3) := dk_167 255 228 (dk_at dksX8_bothBoot_1 13 rfl rfl)
theorem dX8_bothBoot_40 : decode cX8_bothBoot 40 = .ok (.iconst 0, 1) := dk_3 (dk_at dksX8_bothBoot_1 16 rfl rfl)
theorem dX8_bothBoot_41 : decode cX8_bothBoot 41 = .ok (.istore_n 2, 1) := dk_61 (dk_at dksX8_bothBoot_1 17 rfl rfl)
theorem dX8_bothBoot_42 : decode cX8_bothBoot 42 = .ok (.iload_n 2, 1) := dk_28 (dk_at dksX8_bothBoot_1 18 rfl rfl)
theorem dX8_bothBoot_43 : decode cX8_bothBoot 43 = .ok (.bipush 8, 2) := dk_16 8 (dk_at dksX8_bothBoot_1 19 rfl rfl)
theorem dX8_bothBoot_45 : decode cX8_bothBoot 45 = .ok (.if_icmp .ge 30, 3) := dk_162 0 30 (dk_at dksX8_bothBoot_1 21 rfl rfl)
theorem dX8_bothBoot_48 : decode cX8_bothBoot 48 = .ok (.aload_n 0, 1) := dk_42 (dk_at dksX8_bothBoot_2 0 rfl rfl)
theorem dX8_bothBoot_49 : decode cX8_bothBoot 49 = .ok (.getfield 13, 3) := dk_180 0 13 (dk_at dksX8_bothBoot_2 1 rfl rfl)
theorem dX8_bothBoot_52 : decode cX8_bothBoot 52 = .ok (.iload_n 1, 1) := dk_27 (dk_at dksX8_bothBoot_2 4 rfl rfl)
theorem dX8_bothBoot_53 : decode cX8_bothBoot 53 = .ok (.iconst 5, 1) := dk_8 (dk_at dksX8_bothBoot_2 5 rfl rfl)
theorem dX8_bothBoot_54 : decode cX8_bothBoot 54 = .ok (.iload_n 2, 1) := dk_28 (dk_at dksX8_bothBoot_2 6 rfl rfl)
theorem dX8_bothBoot_55 : decode cX8_bothBoot 55 = .ok (.iadd, 1) := dk_96 (dk_at dksX8_bothBoot_2 7 rfl rfl)
theorem dX8_bothBoot_56 : decode cX8_bothBoot 56 = .ok (.invokestatic 81, 3) := dk_184 0 81 (dk_at dksX8_bothBoot_2 8 rfl rfl)
theorem dX8_bothBoot_59 : decode cX8_bothBoot 59 = .ok (.aload_n 0, 1) := dk_42 (dk_at dksX8_bothBoot_2 11 rfl rfl)
theorem dX8_bothBoot_60 : decode cX8_bothBoot 60 = .ok (.getfield 13, 3) := dk_180 0 13 (dk_at dksX8_bothBoot_2 12 rfl rfl)
theorem dX8_bothBoot_63 : decode cX8_bothBoot 63 = .ok (.bipush 22, 2) := dk_16 22 (dk_at dksX8_bothBoot_2 15 rfl rfl)
theorem dX8_bothBoot_65 : decode cX8_bothBoot 65 = .ok (.iload_n 2, 1) := dk_28 (dk_at dksX8_bothBoot_2 17 rfl rfl)
theorem dX8_bothBoot_66 : decode cX8_bothBoot 66 = .ok (.iadd, 1) := dk_96 (dk_at dksX8_bothBoot_2 18 rfl rfl)
theorem dX8_bothBoot_67 : decode cX8_bothBoot 67 = .ok (.iaload, 1) := dk_46 (dk_at dksX8_bothBoot_2 19 rfl rfl)
theorem dX8_bothBoot_68 : decode cX8_bothBoot 68 = .ok (.iastore, 1) := dk_79 (dk_at dksX8_bothBoot_2 20 rfl rfl)
theorem dX8_bothBoot_69 : decode cX8_bothBoot 69 = .ok (.iinc 2 1, 3) := dk_132 2 1 (dk_at dksX8_bothBoot_2 21 rfl rfl)
theorem dX8_bothBoot_72 : decode cX8_bothBoot 72 = .ok (.goto (-30), 3) := dk_167 255 226 (dk_at dksX8_bothBoot_3 0 rfl rfl)
theorem dX8_bothBoot_75 : decode cX8_bothBoot 75 = .ok (.iinc 1 1, 3) := dk_132 1 1 (dk_at dksX8_bothBoot_3 3 rfl rfl)
theorem dX8_bothBoot_78 : decode cX8_bothBoot 78 = .ok (.goto (-76), 3) := dk_167 255 180 (dk_at dksX8_bothBoot_3 6 rfl rfl)
theorem dX8_bothBoot_81 : decode cX8_bothBoot 81 = .ok (.return_, 1) := dk_177 (dk_at dksX8_bothBoot_3 9 rfl rfl)
abbrev cX8_guestAt : ByteArray := prog_19_method_17_code
def yX8_guestAt : MethodName := ⟨RX8, "guestAt", "(II)I"⟩
def dkwX8_guestAt_0 : List UInt8 := [16, 102, 16, 13, 26, 104, 96, 27, 96, 172]
abbrev dktX8_guestAt_0 : List UInt8 := dkwX8_guestAt_0 ++ []
theorem dksX8_guestAt_0 : cX8_guestAt.data.toList.drop 0 = dktX8_guestAt_0 := by decide +kernel
theorem dX8_guestAt_0 : decode cX8_guestAt 0 = .ok (.bipush 102, 2) := dk_16 102 (dk_at dksX8_guestAt_0 0 rfl rfl)
theorem dX8_guestAt_2 : decode cX8_guestAt 2 = .ok (.bipush 13, 2) := dk_16 13 (dk_at dksX8_guestAt_0 2 rfl rfl)
theorem dX8_guestAt_4 : decode cX8_guestAt 4 = .ok (.iload_n 0, 1) := dk_26 (dk_at dksX8_guestAt_0 4 rfl rfl)
theorem dX8_guestAt_5 : decode cX8_guestAt 5 = .ok (.imul, 1) := dk_104 (dk_at dksX8_guestAt_0 5 rfl rfl)
theorem dX8_guestAt_6 : decode cX8_guestAt 6 = .ok (.iadd, 1) := dk_96 (dk_at dksX8_guestAt_0 6 rfl rfl)
theorem dX8_guestAt_7 : decode cX8_guestAt 7 = .ok (.iload_n 1, 1) := dk_27 (dk_at dksX8_guestAt_0 7 rfl rfl)
theorem dX8_guestAt_8 : decode cX8_guestAt 8 = .ok (.iadd, 1) := dk_96 (dk_at dksX8_guestAt_0 8 rfl rfl)
theorem dX8_guestAt_9 : decode cX8_guestAt 9 = .ok (.ireturn, 1) := dk_172 (dk_at dksX8_guestAt_0 9 rfl rfl)
abbrev cX8_image : ByteArray := prog_19_method_6_code
def yX8_image : MethodName := ⟨RX8, "image", "()V"⟩
def dkwX8_image_1 : List UInt8 := [46, 79, 132, 1, 1, 167, 255, 234, 42, 4, 181, 0, 67, 177]
abbrev dktX8_image_1 : List UInt8 := dkwX8_image_1 ++ []
def dkwX8_image_0 : List UInt8 := [42, 3, 181, 0, 3, 3, 60, 27, 17, 4, 193, 162, 0, 21, 42, 180, 0, 17, 27, 42, 180, 0, 13, 27]
abbrev dktX8_image_0 : List UInt8 := dkwX8_image_0 ++ dktX8_image_1
theorem dksX8_image_0 : cX8_image.data.toList.drop 0 = dktX8_image_0 := by decide +kernel
theorem dksX8_image_1 : cX8_image.data.toList.drop 24 = dktX8_image_1 := dk_seg dksX8_image_0 24 rfl rfl
theorem dX8_image_0 : decode cX8_image 0 = .ok (.aload_n 0, 1) := dk_42 (dk_at dksX8_image_0 0 rfl rfl)
theorem dX8_image_1 : decode cX8_image 1 = .ok (.iconst 0, 1) := dk_3 (dk_at dksX8_image_0 1 rfl rfl)
theorem dX8_image_2 : decode cX8_image 2 = .ok (.putfield 3, 3) := dk_181 0 3 (dk_at dksX8_image_0 2 rfl rfl)
theorem dX8_image_5 : decode cX8_image 5 = .ok (.iconst 0, 1) := dk_3 (dk_at dksX8_image_0 5 rfl rfl)
theorem dX8_image_6 : decode cX8_image 6 = .ok (.istore_n 1, 1) := dk_60 (dk_at dksX8_image_0 6 rfl rfl)
theorem dX8_image_7 : decode cX8_image 7 = .ok (.iload_n 1, 1) := dk_27 (dk_at dksX8_image_0 7 rfl rfl)
theorem dX8_image_8 : decode cX8_image 8 = .ok (.sipush 1217, 3) := dk_17 4 193 (dk_at dksX8_image_0 8 rfl rfl)
theorem dX8_image_11 : decode cX8_image 11 = .ok (.if_icmp .ge 21, 3) := dk_162 0 21 (dk_at dksX8_image_0 11 rfl rfl)
theorem dX8_image_14 : decode cX8_image 14 = .ok (.aload_n 0, 1) := dk_42 (dk_at dksX8_image_0 14 rfl rfl)
theorem dX8_image_15 : decode cX8_image 15 = .ok (.getfield 17, 3) := dk_180 0 17 (dk_at dksX8_image_0 15 rfl rfl)
theorem dX8_image_18 : decode cX8_image 18 = .ok (.iload_n 1, 1) := dk_27 (dk_at dksX8_image_0 18 rfl rfl)
theorem dX8_image_19 : decode cX8_image 19 = .ok (.aload_n 0, 1) := dk_42 (dk_at dksX8_image_0 19 rfl rfl)
theorem dX8_image_20 : decode cX8_image 20 = .ok (.getfield 13, 3) := dk_180 0 13 (dk_at dksX8_image_0 20 rfl rfl)
theorem dX8_image_23 : decode cX8_image 23 = .ok (.iload_n 1, 1) := dk_27 (dk_at dksX8_image_0 23 rfl rfl)
theorem dX8_image_24 : decode cX8_image 24 = .ok (.iaload, 1) := dk_46 (dk_at dksX8_image_1 0 rfl rfl)
theorem dX8_image_25 : decode cX8_image 25 = .ok (.iastore, 1) := dk_79 (dk_at dksX8_image_1 1 rfl rfl)
theorem dX8_image_26 : decode cX8_image 26 = .ok (.iinc 1 1, 3) := dk_132 1 1 (dk_at dksX8_image_1 2 rfl rfl)
theorem dX8_image_29 : decode cX8_image 29 = .ok (.goto (-22), 3) := dk_167 255 234 (dk_at dksX8_image_1 5 rfl rfl)
theorem dX8_image_32 : decode cX8_image 32 = .ok (.aload_n 0, 1) := dk_42 (dk_at dksX8_image_1 8 rfl rfl)
theorem dX8_image_33 : decode cX8_image 33 = .ok (.iconst 1, 1) := dk_4 (dk_at dksX8_image_1 9 rfl rfl)
theorem dX8_image_34 : decode cX8_image 34 = .ok (.putfield 67, 3) := dk_181 0 67 (dk_at dksX8_image_1 10 rfl rfl)
theorem dX8_image_37 : decode cX8_image 37 = .ok (.return_, 1) := dk_177 (dk_at dksX8_image_1 13 rfl rfl)
abbrev cX8_back : ByteArray := prog_19_method_7_code
def yX8_back : MethodName := ⟨RX8, "back", "()Z"⟩
def dkwX8_back_1 : List UInt8 := [180, 0, 13, 27, 42, 180, 0, 17, 27, 46, 79, 132, 1, 1, 167, 255, 234, 42, 3, 181, 0, 71, 4, 172]
abbrev dktX8_back_1 : List UInt8 := dkwX8_back_1 ++ []
def dkwX8_back_0 : List UInt8 := [42, 3, 181, 0, 3, 42, 180, 0, 67, 154, 0, 5, 3, 172, 3, 60, 27, 17, 4, 193, 162, 0, 21, 42]
abbrev dktX8_back_0 : List UInt8 := dkwX8_back_0 ++ dktX8_back_1
theorem dksX8_back_0 : cX8_back.data.toList.drop 0 = dktX8_back_0 := by decide +kernel
theorem dksX8_back_1 : cX8_back.data.toList.drop 24 = dktX8_back_1 := dk_seg dksX8_back_0 24 rfl rfl
theorem dX8_back_0 : decode cX8_back 0 = .ok (.aload_n 0, 1) := dk_42 (dk_at dksX8_back_0 0 rfl rfl)
theorem dX8_back_1 : decode cX8_back 1 = .ok (.iconst 0, 1) := dk_3 (dk_at dksX8_back_0 1 rfl rfl)
theorem dX8_back_2 : decode cX8_back 2 = .ok (.putfield 3, 3) := dk_181 0 3 (dk_at dksX8_back_0 2 rfl rfl)
theorem dX8_back_5 : decode cX8_back 5 = .ok (.aload_n 0, 1) := dk_42 (dk_at dksX8_back_0 5 rfl rfl)
theorem dX8_back_6 : decode cX8_back 6 = .ok (.getfield 67, 3) := dk_180 0 67 (dk_at dksX8_back_0 6 rfl rfl)
theorem dX8_back_9 : decode cX8_back 9 = .ok (.ifCond .ne 5, 3) := dk_154 0 5 (dk_at dksX8_back_0 9 rfl rfl)
theorem dX8_back_12 : decode cX8_back 12 = .ok (.iconst 0, 1) := dk_3 (dk_at dksX8_back_0 12 rfl rfl)
theorem dX8_back_13 : decode cX8_back 13 = .ok (.ireturn, 1) := dk_172 (dk_at dksX8_back_0 13 rfl rfl)
theorem dX8_back_14 : decode cX8_back 14 = .ok (.iconst 0, 1) := dk_3 (dk_at dksX8_back_0 14 rfl rfl)
theorem dX8_back_15 : decode cX8_back 15 = .ok (.istore_n 1, 1) := dk_60 (dk_at dksX8_back_0 15 rfl rfl)
theorem dX8_back_16 : decode cX8_back 16 = .ok (.iload_n 1, 1) := dk_27 (dk_at dksX8_back_0 16 rfl rfl)
theorem dX8_back_17 : decode cX8_back 17 = .ok (.sipush 1217, 3) := dk_17 4 193 (dk_at dksX8_back_0 17 rfl rfl)
theorem dX8_back_20 : decode cX8_back 20 = .ok (.if_icmp .ge 21, 3) := dk_162 0 21 (dk_at dksX8_back_0 20 rfl rfl)
theorem dX8_back_23 : decode cX8_back 23 = .ok (.aload_n 0, 1) := dk_42 (dk_at dksX8_back_0 23 rfl rfl)
theorem dX8_back_24 : decode cX8_back 24 = .ok (.getfield 13, 3) := dk_180 0 13 (dk_at dksX8_back_1 0 rfl rfl)
theorem dX8_back_27 : decode cX8_back 27 = .ok (.iload_n 1, 1) := dk_27 (dk_at dksX8_back_1 3 rfl rfl)
theorem dX8_back_28 : decode cX8_back 28 = .ok (.aload_n 0, 1) := dk_42 (dk_at dksX8_back_1 4 rfl rfl)
theorem dX8_back_29 : decode cX8_back 29 = .ok (.getfield 17, 3) := dk_180 0 17 (dk_at dksX8_back_1 5 rfl rfl)
theorem dX8_back_32 : decode cX8_back 32 = .ok (.iload_n 1, 1) := dk_27 (dk_at dksX8_back_1 8 rfl rfl)
theorem dX8_back_33 : decode cX8_back 33 = .ok (.iaload, 1) := dk_46 (dk_at dksX8_back_1 9 rfl rfl)
theorem dX8_back_34 : decode cX8_back 34 = .ok (.iastore, 1) := dk_79 (dk_at dksX8_back_1 10 rfl rfl)
theorem dX8_back_35 : decode cX8_back 35 = .ok (.iinc 1 1, 3) := dk_132 1 1 (dk_at dksX8_back_1 11 rfl rfl)
theorem dX8_back_38 : decode cX8_back 38 = .ok (.goto (-22), 3) := dk_167 255 234 (dk_at dksX8_back_1 14 rfl rfl)
theorem dX8_back_41 : decode cX8_back 41 = .ok (.aload_n 0, 1) := dk_42 (dk_at dksX8_back_1 17 rfl rfl)
theorem dX8_back_42 : decode cX8_back 42 = .ok (.iconst 0, 1) := dk_3 (dk_at dksX8_back_1 18 rfl rfl)
theorem dX8_back_43 : decode cX8_back 43 = .ok (.putfield 71, 3) := dk_181 0 71 (dk_at dksX8_back_1 19 rfl rfl)
theorem dX8_back_46 : decode cX8_back 46 = .ok (.iconst 1, 1) := dk_4 (dk_at dksX8_back_1 22 rfl rfl)
theorem dX8_back_47 : decode cX8_back 47 = .ok (.ireturn, 1) := dk_172 (dk_at dksX8_back_1 23 rfl rfl)
abbrev cX8_undo : ByteArray := prog_19_method_9_code
def yX8_undo : MethodName := ⟨RX8, "undo", "()Z"⟩
def dkwX8_undo_2 : List UInt8 := [180, 0, 71, 104, 27, 96, 46, 79, 132, 1, 1, 167, 255, 225, 4, 172]
abbrev dktX8_undo_2 : List UInt8 := dkwX8_undo_2 ++ []
def dkwX8_undo_1 : List UInt8 := [3, 60, 27, 17, 1, 112, 162, 0, 30, 42, 180, 0, 13, 27, 42, 180, 0, 26, 17, 1, 112, 42]
abbrev dktX8_undo_1 : List UInt8 := dkwX8_undo_1 ++ dktX8_undo_2
def dkwX8_undo_0 : List UInt8 := [42, 3, 181, 0, 3, 42, 180, 0, 71, 154, 0, 5, 3, 172, 42, 89, 180, 0, 71, 4, 100, 181, 0, 71]
abbrev dktX8_undo_0 : List UInt8 := dkwX8_undo_0 ++ dktX8_undo_1
theorem dksX8_undo_0 : cX8_undo.data.toList.drop 0 = dktX8_undo_0 := by decide +kernel
theorem dksX8_undo_1 : cX8_undo.data.toList.drop 24 = dktX8_undo_1 := dk_seg dksX8_undo_0 24 rfl rfl
theorem dksX8_undo_2 : cX8_undo.data.toList.drop 46 = dktX8_undo_2 := dk_seg dksX8_undo_1 22 rfl rfl
theorem dX8_undo_0 : decode cX8_undo 0 = .ok (.aload_n 0, 1) := dk_42 (dk_at dksX8_undo_0 0 rfl rfl)
theorem dX8_undo_1 : decode cX8_undo 1 = .ok (.iconst 0, 1) := dk_3 (dk_at dksX8_undo_0 1 rfl rfl)
theorem dX8_undo_2 : decode cX8_undo 2 = .ok (.putfield 3, 3) := dk_181 0 3 (dk_at dksX8_undo_0 2 rfl rfl)
theorem dX8_undo_5 : decode cX8_undo 5 = .ok (.aload_n 0, 1) := dk_42 (dk_at dksX8_undo_0 5 rfl rfl)
theorem dX8_undo_6 : decode cX8_undo 6 = .ok (.getfield 71, 3) := dk_180 0 71 (dk_at dksX8_undo_0 6 rfl rfl)
theorem dX8_undo_9 : decode cX8_undo 9 = .ok (.ifCond .ne 5, 3) := dk_154 0 5 (dk_at dksX8_undo_0 9 rfl rfl)
theorem dX8_undo_12 : decode cX8_undo 12 = .ok (.iconst 0, 1) := dk_3 (dk_at dksX8_undo_0 12 rfl rfl)
theorem dX8_undo_13 : decode cX8_undo 13 = .ok (.ireturn, 1) := dk_172 (dk_at dksX8_undo_0 13 rfl rfl)
theorem dX8_undo_14 : decode cX8_undo 14 = .ok (.aload_n 0, 1) := dk_42 (dk_at dksX8_undo_0 14 rfl rfl)
theorem dX8_undo_15 : decode cX8_undo 15 = .ok (.dup, 1) := dk_89 (dk_at dksX8_undo_0 15 rfl rfl)
theorem dX8_undo_16 : decode cX8_undo 16 = .ok (.getfield 71, 3) := dk_180 0 71 (dk_at dksX8_undo_0 16 rfl rfl)
theorem dX8_undo_19 : decode cX8_undo 19 = .ok (.iconst 1, 1) := dk_4 (dk_at dksX8_undo_0 19 rfl rfl)
theorem dX8_undo_20 : decode cX8_undo 20 = .ok (.isub, 1) := dk_100 (dk_at dksX8_undo_0 20 rfl rfl)
theorem dX8_undo_21 : decode cX8_undo 21 = .ok (.putfield 71, 3) := dk_181 0 71 (dk_at dksX8_undo_0 21 rfl rfl)
theorem dX8_undo_24 : decode cX8_undo 24 = .ok (.iconst 0, 1) := dk_3 (dk_at dksX8_undo_1 0 rfl rfl)
theorem dX8_undo_25 : decode cX8_undo 25 = .ok (.istore_n 1, 1) := dk_60 (dk_at dksX8_undo_1 1 rfl rfl)
theorem dX8_undo_26 : decode cX8_undo 26 = .ok (.iload_n 1, 1) := dk_27 (dk_at dksX8_undo_1 2 rfl rfl)
theorem dX8_undo_27 : decode cX8_undo 27 = .ok (.sipush 368, 3) := dk_17 1 112 (dk_at dksX8_undo_1 3 rfl rfl)
theorem dX8_undo_30 : decode cX8_undo 30 = .ok (.if_icmp .ge 30, 3) := dk_162 0 30 (dk_at dksX8_undo_1 6 rfl rfl)
theorem dX8_undo_33 : decode cX8_undo 33 = .ok (.aload_n 0, 1) := dk_42 (dk_at dksX8_undo_1 9 rfl rfl)
theorem dX8_undo_34 : decode cX8_undo 34 = .ok (.getfield 13, 3) := dk_180 0 13 (dk_at dksX8_undo_1 10 rfl rfl)
theorem dX8_undo_37 : decode cX8_undo 37 = .ok (.iload_n 1, 1) := dk_27 (dk_at dksX8_undo_1 13 rfl rfl)
theorem dX8_undo_38 : decode cX8_undo 38 = .ok (.aload_n 0, 1) := dk_42 (dk_at dksX8_undo_1 14 rfl rfl)
theorem dX8_undo_39 : decode cX8_undo 39 = .ok (.getfield 26, 3) := dk_180 0 26 (dk_at dksX8_undo_1 15 rfl rfl)
theorem dX8_undo_42 : decode cX8_undo 42 = .ok (.sipush 368, 3) := dk_17 1 112 (dk_at dksX8_undo_1 18 rfl rfl)
theorem dX8_undo_45 : decode cX8_undo 45 = .ok (.aload_n 0, 1) := dk_42 (dk_at dksX8_undo_1 21 rfl rfl)
theorem dX8_undo_46 : decode cX8_undo 46 = .ok (.getfield 71, 3) := dk_180 0 71 (dk_at dksX8_undo_2 0 rfl rfl)
theorem dX8_undo_49 : decode cX8_undo 49 = .ok (.imul, 1) := dk_104 (dk_at dksX8_undo_2 3 rfl rfl)
theorem dX8_undo_50 : decode cX8_undo 50 = .ok (.iload_n 1, 1) := dk_27 (dk_at dksX8_undo_2 4 rfl rfl)
theorem dX8_undo_51 : decode cX8_undo 51 = .ok (.iadd, 1) := dk_96 (dk_at dksX8_undo_2 5 rfl rfl)
theorem dX8_undo_52 : decode cX8_undo 52 = .ok (.iaload, 1) := dk_46 (dk_at dksX8_undo_2 6 rfl rfl)
theorem dX8_undo_53 : decode cX8_undo 53 = .ok (.iastore, 1) := dk_79 (dk_at dksX8_undo_2 7 rfl rfl)
theorem dX8_undo_54 : decode cX8_undo 54 = .ok (.iinc 1 1, 3) := dk_132 1 1 (dk_at dksX8_undo_2 8 rfl rfl)
theorem dX8_undo_57 : decode cX8_undo 57 = .ok (.goto (-31), 3) := dk_167 255 225 (dk_at dksX8_undo_2 11 rfl rfl)
theorem dX8_undo_60 : decode cX8_undo 60 = .ok (.iconst 1, 1) := dk_4 (dk_at dksX8_undo_2 14 rfl rfl)
theorem dX8_undo_61 : decode cX8_undo 61 = .ok (.ireturn, 1) := dk_172 (dk_at dksX8_undo_2 15 rfl rfl)
abbrev cX8_feed : ByteArray := prog_19_method_22_code
def yX8_feed : MethodName := ⟨RX8, "feed", "(IIIII)I"⟩
def dkwX8_feed_5 : List UInt8 := [180, 0, 93, 172]
abbrev dktX8_feed_5 : List UInt8 := dkwX8_feed_5 ++ []
def dkwX8_feed_4 : List UInt8 := [100, 122, 145, 84, 132, 6, 1, 167, 255, 213, 42, 89, 180, 0, 93, 16, 20, 96, 181, 0, 93, 42]
abbrev dktX8_feed_4 : List UInt8 := dkwX8_feed_4 ++ dktX8_feed_5
def dkwX8_feed_3 : List UInt8 := [180, 0, 93, 21, 6, 96, 42, 180, 0, 36, 21, 6, 7, 108, 46, 16, 24, 16, 8, 21, 6, 7, 112, 104]
abbrev dktX8_feed_3 : List UInt8 := dkwX8_feed_3 ++ dktX8_feed_4
def dkwX8_feed_2 : List UInt8 := [79, 42, 180, 0, 36, 7, 21, 5, 79, 3, 54, 6, 21, 6, 16, 20, 162, 0, 42, 42, 180, 0, 29, 42]
abbrev dktX8_feed_2 : List UInt8 := dkwX8_feed_2 ++ dktX8_feed_3
def dkwX8_feed_1 : List UInt8 := [3, 27, 79, 42, 180, 0, 36, 4, 28, 79, 42, 180, 0, 36, 5, 29, 79, 42, 180, 0, 36, 6, 21, 4]
abbrev dktX8_feed_1 : List UInt8 := dkwX8_feed_1 ++ dktX8_feed_2
def dkwX8_feed_0 : List UInt8 := [42, 3, 181, 0, 3, 42, 180, 0, 93, 16, 20, 96, 17, 1, 144, 164, 0, 5, 2, 172, 42, 180, 0, 36]
abbrev dktX8_feed_0 : List UInt8 := dkwX8_feed_0 ++ dktX8_feed_1
theorem dksX8_feed_0 : cX8_feed.data.toList.drop 0 = dktX8_feed_0 := by decide +kernel
theorem dksX8_feed_1 : cX8_feed.data.toList.drop 24 = dktX8_feed_1 := dk_seg dksX8_feed_0 24 rfl rfl
theorem dksX8_feed_2 : cX8_feed.data.toList.drop 48 = dktX8_feed_2 := dk_seg dksX8_feed_1 24 rfl rfl
theorem dksX8_feed_3 : cX8_feed.data.toList.drop 72 = dktX8_feed_3 := dk_seg dksX8_feed_2 24 rfl rfl
theorem dksX8_feed_4 : cX8_feed.data.toList.drop 96 = dktX8_feed_4 := dk_seg dksX8_feed_3 24 rfl rfl
theorem dksX8_feed_5 : cX8_feed.data.toList.drop 118 = dktX8_feed_5 := dk_seg dksX8_feed_4 22 rfl rfl
theorem dX8_feed_0 : decode cX8_feed 0 = .ok (.aload_n 0, 1) := dk_42 (dk_at dksX8_feed_0 0 rfl rfl)
theorem dX8_feed_1 : decode cX8_feed 1 = .ok (.iconst 0, 1) := dk_3 (dk_at dksX8_feed_0 1 rfl rfl)
theorem dX8_feed_2 : decode cX8_feed 2 = .ok (.putfield 3, 3) := dk_181 0 3 (dk_at dksX8_feed_0 2 rfl rfl)
theorem dX8_feed_5 : decode cX8_feed 5 = .ok (.aload_n 0, 1) := dk_42 (dk_at dksX8_feed_0 5 rfl rfl)
theorem dX8_feed_6 : decode cX8_feed 6 = .ok (.getfield 93, 3) := dk_180 0 93 (dk_at dksX8_feed_0 6 rfl rfl)
theorem dX8_feed_9 : decode cX8_feed 9 = .ok (.bipush 20, 2) := dk_16 20 (dk_at dksX8_feed_0 9 rfl rfl)
theorem dX8_feed_11 : decode cX8_feed 11 = .ok (.iadd, 1) := dk_96 (dk_at dksX8_feed_0 11 rfl rfl)
theorem dX8_feed_12 : decode cX8_feed 12 = .ok (.sipush 400, 3) := dk_17 1 144 (dk_at dksX8_feed_0 12 rfl rfl)
theorem dX8_feed_15 : decode cX8_feed 15 = .ok (.if_icmp .le 5, 3) := dk_164 0 5 (dk_at dksX8_feed_0 15 rfl rfl)
theorem dX8_feed_18 : decode cX8_feed 18 = .ok (.iconst (-1), 1) := dk_2 (dk_at dksX8_feed_0 18 rfl rfl)
theorem dX8_feed_19 : decode cX8_feed 19 = .ok (.ireturn, 1) := dk_172 (dk_at dksX8_feed_0 19 rfl rfl)
theorem dX8_feed_20 : decode cX8_feed 20 = .ok (.aload_n 0, 1) := dk_42 (dk_at dksX8_feed_0 20 rfl rfl)
theorem dX8_feed_21 : decode cX8_feed 21 = .ok (.getfield 36, 3) := dk_180 0 36 (dk_at dksX8_feed_0 21 rfl rfl)
theorem dX8_feed_24 : decode cX8_feed 24 = .ok (.iconst 0, 1) := dk_3 (dk_at dksX8_feed_1 0 rfl rfl)
theorem dX8_feed_25 : decode cX8_feed 25 = .ok (.iload_n 1, 1) := dk_27 (dk_at dksX8_feed_1 1 rfl rfl)
theorem dX8_feed_26 : decode cX8_feed 26 = .ok (.iastore, 1) := dk_79 (dk_at dksX8_feed_1 2 rfl rfl)
theorem dX8_feed_27 : decode cX8_feed 27 = .ok (.aload_n 0, 1) := dk_42 (dk_at dksX8_feed_1 3 rfl rfl)
theorem dX8_feed_28 : decode cX8_feed 28 = .ok (.getfield 36, 3) := dk_180 0 36 (dk_at dksX8_feed_1 4 rfl rfl)
theorem dX8_feed_31 : decode cX8_feed 31 = .ok (.iconst 1, 1) := dk_4 (dk_at dksX8_feed_1 7 rfl rfl)
theorem dX8_feed_32 : decode cX8_feed 32 = .ok (.iload_n 2, 1) := dk_28 (dk_at dksX8_feed_1 8 rfl rfl)
theorem dX8_feed_33 : decode cX8_feed 33 = .ok (.iastore, 1) := dk_79 (dk_at dksX8_feed_1 9 rfl rfl)
theorem dX8_feed_34 : decode cX8_feed 34 = .ok (.aload_n 0, 1) := dk_42 (dk_at dksX8_feed_1 10 rfl rfl)
theorem dX8_feed_35 : decode cX8_feed 35 = .ok (.getfield 36, 3) := dk_180 0 36 (dk_at dksX8_feed_1 11 rfl rfl)
theorem dX8_feed_38 : decode cX8_feed 38 = .ok (.iconst 2, 1) := dk_5 (dk_at dksX8_feed_1 14 rfl rfl)
theorem dX8_feed_39 : decode cX8_feed 39 = .ok (.iload_n 3, 1) := dk_29 (dk_at dksX8_feed_1 15 rfl rfl)
theorem dX8_feed_40 : decode cX8_feed 40 = .ok (.iastore, 1) := dk_79 (dk_at dksX8_feed_1 16 rfl rfl)
theorem dX8_feed_41 : decode cX8_feed 41 = .ok (.aload_n 0, 1) := dk_42 (dk_at dksX8_feed_1 17 rfl rfl)
theorem dX8_feed_42 : decode cX8_feed 42 = .ok (.getfield 36, 3) := dk_180 0 36 (dk_at dksX8_feed_1 18 rfl rfl)
theorem dX8_feed_45 : decode cX8_feed 45 = .ok (.iconst 3, 1) := dk_6 (dk_at dksX8_feed_1 21 rfl rfl)
theorem dX8_feed_46 : decode cX8_feed 46 = .ok (.iload 4, 2) := dk_21 4 (dk_at dksX8_feed_1 22 rfl rfl)
theorem dX8_feed_48 : decode cX8_feed 48 = .ok (.iastore, 1) := dk_79 (dk_at dksX8_feed_2 0 rfl rfl)
theorem dX8_feed_49 : decode cX8_feed 49 = .ok (.aload_n 0, 1) := dk_42 (dk_at dksX8_feed_2 1 rfl rfl)
theorem dX8_feed_50 : decode cX8_feed 50 = .ok (.getfield 36, 3) := dk_180 0 36 (dk_at dksX8_feed_2 2 rfl rfl)
theorem dX8_feed_53 : decode cX8_feed 53 = .ok (.iconst 4, 1) := dk_7 (dk_at dksX8_feed_2 5 rfl rfl)
theorem dX8_feed_54 : decode cX8_feed 54 = .ok (.iload 5, 2) := dk_21 5 (dk_at dksX8_feed_2 6 rfl rfl)
theorem dX8_feed_56 : decode cX8_feed 56 = .ok (.iastore, 1) := dk_79 (dk_at dksX8_feed_2 8 rfl rfl)
theorem dX8_feed_57 : decode cX8_feed 57 = .ok (.iconst 0, 1) := dk_3 (dk_at dksX8_feed_2 9 rfl rfl)
theorem dX8_feed_58 : decode cX8_feed 58 = .ok (.istore 6, 2) := dk_54 6 (dk_at dksX8_feed_2 10 rfl rfl)
theorem dX8_feed_60 : decode cX8_feed 60 = .ok (.iload 6, 2) := dk_21 6 (dk_at dksX8_feed_2 12 rfl rfl)
theorem dX8_feed_62 : decode cX8_feed 62 = .ok (.bipush 20, 2) := dk_16 20 (dk_at dksX8_feed_2 14 rfl rfl)
theorem dX8_feed_64 : decode cX8_feed 64 = .ok (.if_icmp .ge 42, 3) := dk_162 0 42 (dk_at dksX8_feed_2 16 rfl rfl)
theorem dX8_feed_67 : decode cX8_feed 67 = .ok (.aload_n 0, 1) := dk_42 (dk_at dksX8_feed_2 19 rfl rfl)
theorem dX8_feed_68 : decode cX8_feed 68 = .ok (.getfield 29, 3) := dk_180 0 29 (dk_at dksX8_feed_2 20 rfl rfl)
theorem dX8_feed_71 : decode cX8_feed 71 = .ok (.aload_n 0, 1) := dk_42 (dk_at dksX8_feed_2 23 rfl rfl)
theorem dX8_feed_72 : decode cX8_feed 72 = .ok (.getfield 93, 3) := dk_180 0 93 (dk_at dksX8_feed_3 0 rfl rfl)
theorem dX8_feed_75 : decode cX8_feed 75 = .ok (.iload 6, 2) := dk_21 6 (dk_at dksX8_feed_3 3 rfl rfl)
theorem dX8_feed_77 : decode cX8_feed 77 = .ok (.iadd, 1) := dk_96 (dk_at dksX8_feed_3 5 rfl rfl)
theorem dX8_feed_78 : decode cX8_feed 78 = .ok (.aload_n 0, 1) := dk_42 (dk_at dksX8_feed_3 6 rfl rfl)
theorem dX8_feed_79 : decode cX8_feed 79 = .ok (.getfield 36, 3) := dk_180 0 36 (dk_at dksX8_feed_3 7 rfl rfl)
theorem dX8_feed_82 : decode cX8_feed 82 = .ok (.iload 6, 2) := dk_21 6 (dk_at dksX8_feed_3 10 rfl rfl)
theorem dX8_feed_84 : decode cX8_feed 84 = .ok (.iconst 4, 1) := dk_7 (dk_at dksX8_feed_3 12 rfl rfl)
theorem dX8_feed_85 : decode cX8_feed 85 = .ok (.idiv, 1) := dk_108 (dk_at dksX8_feed_3 13 rfl rfl)
theorem dX8_feed_86 : decode cX8_feed 86 = .ok (.iaload, 1) := dk_46 (dk_at dksX8_feed_3 14 rfl rfl)
theorem dX8_feed_87 : decode cX8_feed 87 = .ok (.bipush 24, 2) := dk_16 24 (dk_at dksX8_feed_3 15 rfl rfl)
theorem dX8_feed_89 : decode cX8_feed 89 = .ok (.bipush 8, 2) := dk_16 8 (dk_at dksX8_feed_3 17 rfl rfl)
theorem dX8_feed_91 : decode cX8_feed 91 = .ok (.iload 6, 2) := dk_21 6 (dk_at dksX8_feed_3 19 rfl rfl)
theorem dX8_feed_93 : decode cX8_feed 93 = .ok (.iconst 4, 1) := dk_7 (dk_at dksX8_feed_3 21 rfl rfl)
theorem dX8_feed_94 : decode cX8_feed 94 = .ok (.irem, 1) := dk_112 (dk_at dksX8_feed_3 22 rfl rfl)
theorem dX8_feed_95 : decode cX8_feed 95 = .ok (.imul, 1) := dk_104 (dk_at dksX8_feed_3 23 rfl rfl)
theorem dX8_feed_96 : decode cX8_feed 96 = .ok (.isub, 1) := dk_100 (dk_at dksX8_feed_4 0 rfl rfl)
theorem dX8_feed_97 : decode cX8_feed 97 = .ok (.ishr, 1) := dk_122 (dk_at dksX8_feed_4 1 rfl rfl)
theorem dX8_feed_98 : decode cX8_feed 98 = .ok (.i2b, 1) := dk_145 (dk_at dksX8_feed_4 2 rfl rfl)
theorem dX8_feed_99 : decode cX8_feed 99 = .ok (.bastore, 1) := dk_84 (dk_at dksX8_feed_4 3 rfl rfl)
theorem dX8_feed_100 : decode cX8_feed 100 = .ok (.iinc 6 1, 3) := dk_132 6 1 (dk_at dksX8_feed_4 4 rfl rfl)
theorem dX8_feed_103 : decode cX8_feed 103 = .ok (.goto (-43), 3) := dk_167 255 213 (dk_at dksX8_feed_4 7 rfl rfl)
theorem dX8_feed_106 : decode cX8_feed 106 = .ok (.aload_n 0, 1) := dk_42 (dk_at dksX8_feed_4 10 rfl rfl)
theorem dX8_feed_107 : decode cX8_feed 107 = .ok (.dup, 1) := dk_89 (dk_at dksX8_feed_4 11 rfl rfl)
theorem dX8_feed_108 : decode cX8_feed 108 = .ok (.getfield 93, 3) := dk_180 0 93 (dk_at dksX8_feed_4 12 rfl rfl)
theorem dX8_feed_111 : decode cX8_feed 111 = .ok (.bipush 20, 2) := dk_16 20 (dk_at dksX8_feed_4 15 rfl rfl)
theorem dX8_feed_113 : decode cX8_feed 113 = .ok (.iadd, 1) := dk_96 (dk_at dksX8_feed_4 17 rfl rfl)
theorem dX8_feed_114 : decode cX8_feed 114 = .ok (.putfield 93, 3) := dk_181 0 93 (dk_at dksX8_feed_4 18 rfl rfl)
theorem dX8_feed_117 : decode cX8_feed 117 = .ok (.aload_n 0, 1) := dk_42 (dk_at dksX8_feed_4 21 rfl rfl)
theorem dX8_feed_118 : decode cX8_feed 118 = .ok (.getfield 93, 3) := dk_180 0 93 (dk_at dksX8_feed_5 0 rfl rfl)
theorem dX8_feed_121 : decode cX8_feed 121 = .ok (.ireturn, 1) := dk_172 (dk_at dksX8_feed_5 3 rfl rfl)
abbrev cX8_end : ByteArray := prog_19_method_23_code
def yX8_end : MethodName := ⟨RX8, "end", "(I)Z"⟩
def dkwX8_end_1 : List UInt8 := [4, 172]
abbrev dktX8_end_1 : List UInt8 := dkwX8_end_1 ++ []
def dkwX8_end_0 : List UInt8 := [42, 3, 181, 0, 3, 27, 155, 0, 11, 27, 42, 180, 0, 93, 164, 0, 5, 3, 172, 42, 27, 181, 0, 93]
abbrev dktX8_end_0 : List UInt8 := dkwX8_end_0 ++ dktX8_end_1
theorem dksX8_end_0 : cX8_end.data.toList.drop 0 = dktX8_end_0 := by decide +kernel
theorem dksX8_end_1 : cX8_end.data.toList.drop 24 = dktX8_end_1 := dk_seg dksX8_end_0 24 rfl rfl
theorem dX8_end_0 : decode cX8_end 0 = .ok (.aload_n 0, 1) := dk_42 (dk_at dksX8_end_0 0 rfl rfl)
theorem dX8_end_1 : decode cX8_end 1 = .ok (.iconst 0, 1) := dk_3 (dk_at dksX8_end_0 1 rfl rfl)
theorem dX8_end_2 : decode cX8_end 2 = .ok (.putfield 3, 3) := dk_181 0 3 (dk_at dksX8_end_0 2 rfl rfl)
theorem dX8_end_5 : decode cX8_end 5 = .ok (.iload_n 1, 1) := dk_27 (dk_at dksX8_end_0 5 rfl rfl)
theorem dX8_end_6 : decode cX8_end 6 = .ok (.ifCond .lt 11, 3) := dk_155 0 11 (dk_at dksX8_end_0 6 rfl rfl)
theorem dX8_end_9 : decode cX8_end 9 = .ok (.iload_n 1, 1) := dk_27 (dk_at dksX8_end_0 9 rfl rfl)
theorem dX8_end_10 : decode cX8_end 10 = .ok (.aload_n 0, 1) := dk_42 (dk_at dksX8_end_0 10 rfl rfl)
theorem dX8_end_11 : decode cX8_end 11 = .ok (.getfield 93, 3) := dk_180 0 93 (dk_at dksX8_end_0 11 rfl rfl)
theorem dX8_end_14 : decode cX8_end 14 = .ok (.if_icmp .le 5, 3) := dk_164 0 5 (dk_at dksX8_end_0 14 rfl rfl)
theorem dX8_end_17 : decode cX8_end 17 = .ok (.iconst 0, 1) := dk_3 (dk_at dksX8_end_0 17 rfl rfl)
theorem dX8_end_18 : decode cX8_end 18 = .ok (.ireturn, 1) := dk_172 (dk_at dksX8_end_0 18 rfl rfl)
theorem dX8_end_19 : decode cX8_end 19 = .ok (.aload_n 0, 1) := dk_42 (dk_at dksX8_end_0 19 rfl rfl)
theorem dX8_end_20 : decode cX8_end 20 = .ok (.iload_n 1, 1) := dk_27 (dk_at dksX8_end_0 20 rfl rfl)
theorem dX8_end_21 : decode cX8_end 21 = .ok (.putfield 93, 3) := dk_181 0 93 (dk_at dksX8_end_0 21 rfl rfl)
theorem dX8_end_24 : decode cX8_end 24 = .ok (.iconst 1, 1) := dk_4 (dk_at dksX8_end_1 0 rfl rfl)
theorem dX8_end_25 : decode cX8_end 25 = .ok (.ireturn, 1) := dk_172 (dk_at dksX8_end_1 1 rfl rfl)
abbrev cX8_fault : ByteArray := prog_19_method_32_code
def yX8_fault : MethodName := ⟨RX8, "fault", "()I"⟩
def dkwX8_fault_0 : List UInt8 := [42, 3, 181, 0, 3, 42, 180, 0, 33, 172]
abbrev dktX8_fault_0 : List UInt8 := dkwX8_fault_0 ++ []
theorem dksX8_fault_0 : cX8_fault.data.toList.drop 0 = dktX8_fault_0 := by decide +kernel
theorem dX8_fault_0 : decode cX8_fault 0 = .ok (.aload_n 0, 1) := dk_42 (dk_at dksX8_fault_0 0 rfl rfl)
theorem dX8_fault_1 : decode cX8_fault 1 = .ok (.iconst 0, 1) := dk_3 (dk_at dksX8_fault_0 1 rfl rfl)
theorem dX8_fault_2 : decode cX8_fault 2 = .ok (.putfield 3, 3) := dk_181 0 3 (dk_at dksX8_fault_0 2 rfl rfl)
theorem dX8_fault_5 : decode cX8_fault 5 = .ok (.aload_n 0, 1) := dk_42 (dk_at dksX8_fault_0 5 rfl rfl)
theorem dX8_fault_6 : decode cX8_fault 6 = .ok (.getfield 33, 3) := dk_180 0 33 (dk_at dksX8_fault_0 6 rfl rfl)
theorem dX8_fault_9 : decode cX8_fault 9 = .ok (.ireturn, 1) := dk_172 (dk_at dksX8_fault_0 9 rfl rfl)
abbrev cX8_bench : ByteArray := prog_19_method_54_code
def yX8_bench : MethodName := ⟨RX8, "bench", "()I"⟩
def dkwX8_bench_6 : List UInt8 := [42, 180, 0, 13, 4, 46, 172]
abbrev dktX8_bench_6 : List UInt8 := dkwX8_bench_6 ++ []
def dkwX8_bench_5 : List UInt8 := [167, 255, 234, 3, 172, 42, 180, 0, 13, 4, 92, 46, 4, 96, 79, 42, 182, 0, 64, 42, 3, 181, 0, 71]
abbrev dktX8_bench_5 : List UInt8 := dkwX8_bench_5 ++ dktX8_bench_6
def dkwX8_bench_4 : List UInt8 := [28, 17, 4, 193, 162, 0, 21, 42, 180, 0, 13, 28, 42, 180, 0, 20, 28, 46, 79, 132, 2, 1]
abbrev dktX8_bench_4 : List UInt8 := dkwX8_bench_4 ++ dktX8_bench_5
def dkwX8_bench_3 : List UInt8 := [180, 0, 13, 4, 46, 16, 12, 160, 0, 7, 4, 167, 0, 4, 3, 5, 182, 1, 24, 153, 0, 32, 3, 61]
abbrev dktX8_bench_3 : List UInt8 := dkwX8_bench_3 ++ dktX8_bench_4
def dkwX8_bench_2 : List UInt8 := [181, 0, 33, 42, 27, 156, 0, 7, 4, 167, 0, 4, 3, 4, 182, 1, 24, 154, 0, 27, 42, 42]
abbrev dktX8_bench_2 : List UInt8 := dkwX8_bench_2 ++ dktX8_bench_3
def dkwX8_bench_1 : List UInt8 := [167, 255, 234, 42, 4, 182, 1, 20, 60, 42, 27, 156, 0, 10, 42, 180, 0, 106, 167, 0, 4, 2]
abbrev dktX8_bench_1 : List UInt8 := dkwX8_bench_1 ++ dktX8_bench_2
def dkwX8_bench_0 : List UInt8 := [3, 60, 27, 17, 4, 193, 162, 0, 21, 42, 180, 0, 20, 27, 42, 180, 0, 13, 27, 46, 79, 132, 1, 1]
abbrev dktX8_bench_0 : List UInt8 := dkwX8_bench_0 ++ dktX8_bench_1
theorem dksX8_bench_0 : cX8_bench.data.toList.drop 0 = dktX8_bench_0 := by decide +kernel
theorem dksX8_bench_1 : cX8_bench.data.toList.drop 24 = dktX8_bench_1 := dk_seg dksX8_bench_0 24 rfl rfl
theorem dksX8_bench_2 : cX8_bench.data.toList.drop 46 = dktX8_bench_2 := dk_seg dksX8_bench_1 22 rfl rfl
theorem dksX8_bench_3 : cX8_bench.data.toList.drop 68 = dktX8_bench_3 := dk_seg dksX8_bench_2 22 rfl rfl
theorem dksX8_bench_4 : cX8_bench.data.toList.drop 92 = dktX8_bench_4 := dk_seg dksX8_bench_3 24 rfl rfl
theorem dksX8_bench_5 : cX8_bench.data.toList.drop 114 = dktX8_bench_5 := dk_seg dksX8_bench_4 22 rfl rfl
theorem dksX8_bench_6 : cX8_bench.data.toList.drop 138 = dktX8_bench_6 := dk_seg dksX8_bench_5 24 rfl rfl
theorem dX8_bench_0 : decode cX8_bench 0 = .ok (.iconst 0, 1) := dk_3 (dk_at dksX8_bench_0 0 rfl rfl)
theorem dX8_bench_1 : decode cX8_bench 1 = .ok (.istore_n 1, 1) := dk_60 (dk_at dksX8_bench_0 1 rfl rfl)
theorem dX8_bench_2 : decode cX8_bench 2 = .ok (.iload_n 1, 1) := dk_27 (dk_at dksX8_bench_0 2 rfl rfl)
theorem dX8_bench_3 : decode cX8_bench 3 = .ok (.sipush 1217, 3) := dk_17 4 193 (dk_at dksX8_bench_0 3 rfl rfl)
theorem dX8_bench_6 : decode cX8_bench 6 = .ok (.if_icmp .ge 21, 3) := dk_162 0 21 (dk_at dksX8_bench_0 6 rfl rfl)
theorem dX8_bench_9 : decode cX8_bench 9 = .ok (.aload_n 0, 1) := dk_42 (dk_at dksX8_bench_0 9 rfl rfl)
theorem dX8_bench_10 : decode cX8_bench 10 = .ok (.getfield 20, 3) := dk_180 0 20 (dk_at dksX8_bench_0 10 rfl rfl)
theorem dX8_bench_13 : decode cX8_bench 13 = .ok (.iload_n 1, 1) := dk_27 (dk_at dksX8_bench_0 13 rfl rfl)
theorem dX8_bench_14 : decode cX8_bench 14 = .ok (.aload_n 0, 1) := dk_42 (dk_at dksX8_bench_0 14 rfl rfl)
theorem dX8_bench_15 : decode cX8_bench 15 = .ok (.getfield 13, 3) := dk_180 0 13 (dk_at dksX8_bench_0 15 rfl rfl)
theorem dX8_bench_18 : decode cX8_bench 18 = .ok (.iload_n 1, 1) := dk_27 (dk_at dksX8_bench_0 18 rfl rfl)
theorem dX8_bench_19 : decode cX8_bench 19 = .ok (.iaload, 1) := dk_46 (dk_at dksX8_bench_0 19 rfl rfl)
theorem dX8_bench_20 : decode cX8_bench 20 = .ok (.iastore, 1) := dk_79 (dk_at dksX8_bench_0 20 rfl rfl)
theorem dX8_bench_21 : decode cX8_bench 21 = .ok (.iinc 1 1, 3) := dk_132 1 1 (dk_at dksX8_bench_0 21 rfl rfl)
theorem dX8_bench_24 : decode cX8_bench 24 = .ok (.goto (-22), 3) := dk_167 255 234 (dk_at dksX8_bench_1 0 rfl rfl)
theorem dX8_bench_27 : decode cX8_bench 27 = .ok (.aload_n 0, 1) := dk_42 (dk_at dksX8_bench_1 3 rfl rfl)
theorem dX8_bench_28 : decode cX8_bench 28 = .ok (.iconst 1, 1) := dk_4 (dk_at dksX8_bench_1 4 rfl rfl)
theorem dX8_bench_29 : decode cX8_bench 29 = .ok (.invokevirtual 276, 3) := dk_182 1 20 (dk_at dksX8_bench_1 5 rfl rfl)
theorem dX8_bench_32 : decode cX8_bench 32 = .ok (.istore_n 1, 1) := dk_60 (dk_at dksX8_bench_1 8 rfl rfl)
theorem dX8_bench_33 : decode cX8_bench 33 = .ok (.aload_n 0, 1) := dk_42 (dk_at dksX8_bench_1 9 rfl rfl)
theorem dX8_bench_34 : decode cX8_bench 34 = .ok (.iload_n 1, 1) := dk_27 (dk_at dksX8_bench_1 10 rfl rfl)
theorem dX8_bench_35 : decode cX8_bench 35 = .ok (.ifCond .ge 10, 3) := dk_156 0 10 (dk_at dksX8_bench_1 11 rfl rfl)
theorem dX8_bench_38 : decode cX8_bench 38 = .ok (.aload_n 0, 1) := dk_42 (dk_at dksX8_bench_1 14 rfl rfl)
theorem dX8_bench_39 : decode cX8_bench 39 = .ok (.getfield 106, 3) := dk_180 0 106 (dk_at dksX8_bench_1 15 rfl rfl)
theorem dX8_bench_42 : decode cX8_bench 42 = .ok (.goto 4, 3) := dk_167 0 4 (dk_at dksX8_bench_1 18 rfl rfl)
theorem dX8_bench_45 : decode cX8_bench 45 = .ok (.iconst (-1), 1) := dk_2 (dk_at dksX8_bench_1 21 rfl rfl)
theorem dX8_bench_46 : decode cX8_bench 46 = .ok (.putfield 33, 3) := dk_181 0 33 (dk_at dksX8_bench_2 0 rfl rfl)
theorem dX8_bench_49 : decode cX8_bench 49 = .ok (.aload_n 0, 1) := dk_42 (dk_at dksX8_bench_2 3 rfl rfl)
theorem dX8_bench_50 : decode cX8_bench 50 = .ok (.iload_n 1, 1) := dk_27 (dk_at dksX8_bench_2 4 rfl rfl)
theorem dX8_bench_51 : decode cX8_bench 51 = .ok (.ifCond .ge 7, 3) := dk_156 0 7 (dk_at dksX8_bench_2 5 rfl rfl)
theorem dX8_bench_54 : decode cX8_bench 54 = .ok (.iconst 1, 1) := dk_4 (dk_at dksX8_bench_2 8 rfl rfl)
theorem dX8_bench_55 : decode cX8_bench 55 = .ok (.goto 4, 3) := dk_167 0 4 (dk_at dksX8_bench_2 9 rfl rfl)
theorem dX8_bench_58 : decode cX8_bench 58 = .ok (.iconst 0, 1) := dk_3 (dk_at dksX8_bench_2 12 rfl rfl)
theorem dX8_bench_59 : decode cX8_bench 59 = .ok (.iconst 1, 1) := dk_4 (dk_at dksX8_bench_2 13 rfl rfl)
theorem dX8_bench_60 : decode cX8_bench 60 = .ok (.invokevirtual 280, 3) := dk_182 1 24 (dk_at dksX8_bench_2 14 rfl rfl)
theorem dX8_bench_63 : decode cX8_bench 63 = .ok (.ifCond .ne 27, 3) := dk_154 0 27 (dk_at dksX8_bench_2 17 rfl rfl)
theorem dX8_bench_66 : decode cX8_bench 66 = .ok (.aload_n 0, 1) := dk_42 (dk_at dksX8_bench_2 20 rfl rfl)
theorem dX8_bench_67 : decode cX8_bench 67 = .ok (.aload_n 0, 1) := dk_42 (dk_at dksX8_bench_2 21 rfl rfl)
theorem dX8_bench_68 : decode cX8_bench 68 = .ok (.getfield 13, 3) := dk_180 0 13 (dk_at dksX8_bench_3 0 rfl rfl)
theorem dX8_bench_71 : decode cX8_bench 71 = .ok (.iconst 1, 1) := dk_4 (dk_at dksX8_bench_3 3 rfl rfl)
theorem dX8_bench_72 : decode cX8_bench 72 = .ok (.iaload, 1) := dk_46 (dk_at dksX8_bench_3 4 rfl rfl)
theorem dX8_bench_73 : decode cX8_bench 73 = .ok (.bipush 12, 2) := dk_16 12 (dk_at dksX8_bench_3 5 rfl rfl)
theorem dX8_bench_75 : decode cX8_bench 75 = .ok (.if_icmp .ne 7, 3) := dk_160 0 7 (dk_at dksX8_bench_3 7 rfl rfl)
theorem dX8_bench_78 : decode cX8_bench 78 = .ok (.iconst 1, 1) := dk_4 (dk_at dksX8_bench_3 10 rfl rfl)
theorem dX8_bench_79 : decode cX8_bench 79 = .ok (.goto 4, 3) := dk_167 0 4 (dk_at dksX8_bench_3 11 rfl rfl)
theorem dX8_bench_82 : decode cX8_bench 82 = .ok (.iconst 0, 1) := dk_3 (dk_at dksX8_bench_3 14 rfl rfl)
theorem dX8_bench_83 : decode cX8_bench 83 = .ok (.iconst 2, 1) := dk_5 (dk_at dksX8_bench_3 15 rfl rfl)
theorem dX8_bench_84 : decode cX8_bench 84 = .ok (.invokevirtual 280, 3) := dk_182 1 24 (dk_at dksX8_bench_3 16 rfl rfl)
theorem dX8_bench_87 : decode cX8_bench 87 = .ok (.ifCond .eq 32, 3) := dk_153 0 32 (dk_at dksX8_bench_3 19 rfl rfl)
theorem dX8_bench_90 : decode cX8_bench 90 = .ok (.iconst 0, 1) := dk_3 (dk_at dksX8_bench_3 22 rfl rfl)
theorem dX8_bench_91 : decode cX8_bench 91 = .ok (.istore_n 2, 1) := dk_61 (dk_at dksX8_bench_3 23 rfl rfl)
theorem dX8_bench_92 : decode cX8_bench 92 = .ok (.iload_n 2, 1) := dk_28 (dk_at dksX8_bench_4 0 rfl rfl)
theorem dX8_bench_93 : decode cX8_bench 93 = .ok (.sipush 1217, 3) := dk_17 4 193 (dk_at dksX8_bench_4 1 rfl rfl)
theorem dX8_bench_96 : decode cX8_bench 96 = .ok (.if_icmp .ge 21, 3) := dk_162 0 21 (dk_at dksX8_bench_4 4 rfl rfl)
theorem dX8_bench_99 : decode cX8_bench 99 = .ok (.aload_n 0, 1) := dk_42 (dk_at dksX8_bench_4 7 rfl rfl)
theorem dX8_bench_100 : decode cX8_bench 100 = .ok (.getfield 13, 3) := dk_180 0 13 (dk_at dksX8_bench_4 8 rfl rfl)
theorem dX8_bench_103 : decode cX8_bench 103 = .ok (.iload_n 2, 1) := dk_28 (dk_at dksX8_bench_4 11 rfl rfl)
theorem dX8_bench_104 : decode cX8_bench 104 = .ok (.aload_n 0, 1) := dk_42 (dk_at dksX8_bench_4 12 rfl rfl)
theorem dX8_bench_105 : decode cX8_bench 105 = .ok (.getfield 20, 3) := dk_180 0 20 (dk_at dksX8_bench_4 13 rfl rfl)
theorem dX8_bench_108 : decode cX8_bench 108 = .ok (.iload_n 2, 1) := dk_28 (dk_at dksX8_bench_4 16 rfl rfl)
theorem dX8_bench_109 : decode cX8_bench 109 = .ok (.iaload, 1) := dk_46 (dk_at dksX8_bench_4 17 rfl rfl)
theorem dX8_bench_110 : decode cX8_bench 110 = .ok (.iastore, 1) := dk_79 (dk_at dksX8_bench_4 18 rfl rfl)
theorem dX8_bench_111 : decode cX8_bench 111 = .ok (.iinc 2 1, 3) := dk_132 2 1 (dk_at dksX8_bench_4 19 rfl rfl)
theorem dX8_bench_114 : decode cX8_bench 114 = .ok (.goto (-22), 3) := dk_167 255 234 (dk_at dksX8_bench_5 0 rfl rfl)
theorem dX8_bench_117 : decode cX8_bench 117 = .ok (.iconst 0, 1) := dk_3 (dk_at dksX8_bench_5 3 rfl rfl)
theorem dX8_bench_118 : decode cX8_bench 118 = .ok (.ireturn, 1) := dk_172 (dk_at dksX8_bench_5 4 rfl rfl)
theorem dX8_bench_119 : decode cX8_bench 119 = .ok (.aload_n 0, 1) := dk_42 (dk_at dksX8_bench_5 5 rfl rfl)
theorem dX8_bench_120 : decode cX8_bench 120 = .ok (.getfield 13, 3) := dk_180 0 13 (dk_at dksX8_bench_5 6 rfl rfl)
theorem dX8_bench_123 : decode cX8_bench 123 = .ok (.iconst 1, 1) := dk_4 (dk_at dksX8_bench_5 9 rfl rfl)
theorem dX8_bench_124 : decode cX8_bench 124 = .ok (.dup2, 1) := dk_92 (dk_at dksX8_bench_5 10 rfl rfl)
theorem dX8_bench_125 : decode cX8_bench 125 = .ok (.iaload, 1) := dk_46 (dk_at dksX8_bench_5 11 rfl rfl)
theorem dX8_bench_126 : decode cX8_bench 126 = .ok (.iconst 1, 1) := dk_4 (dk_at dksX8_bench_5 12 rfl rfl)
theorem dX8_bench_127 : decode cX8_bench 127 = .ok (.iadd, 1) := dk_96 (dk_at dksX8_bench_5 13 rfl rfl)
theorem dX8_bench_128 : decode cX8_bench 128 = .ok (.iastore, 1) := dk_79 (dk_at dksX8_bench_5 14 rfl rfl)
theorem dX8_bench_129 : decode cX8_bench 129 = .ok (.aload_n 0, 1) := dk_42 (dk_at dksX8_bench_5 15 rfl rfl)
theorem dX8_bench_130 : decode cX8_bench 130 = .ok (.invokevirtual 64, 3) := dk_182 0 64 (dk_at dksX8_bench_5 16 rfl rfl)
theorem dX8_bench_133 : decode cX8_bench 133 = .ok (.aload_n 0, 1) := dk_42 (dk_at dksX8_bench_5 19 rfl rfl)
theorem dX8_bench_134 : decode cX8_bench 134 = .ok (.iconst 0, 1) := dk_3 (dk_at dksX8_bench_5 20 rfl rfl)
theorem dX8_bench_135 : decode cX8_bench 135 = .ok (.putfield 71, 3) := dk_181 0 71 (dk_at dksX8_bench_5 21 rfl rfl)
theorem dX8_bench_138 : decode cX8_bench 138 = .ok (.aload_n 0, 1) := dk_42 (dk_at dksX8_bench_6 0 rfl rfl)
theorem dX8_bench_139 : decode cX8_bench 139 = .ok (.getfield 13, 3) := dk_180 0 13 (dk_at dksX8_bench_6 1 rfl rfl)
theorem dX8_bench_142 : decode cX8_bench 142 = .ok (.iconst 1, 1) := dk_4 (dk_at dksX8_bench_6 4 rfl rfl)
theorem dX8_bench_143 : decode cX8_bench 143 = .ok (.iaload, 1) := dk_46 (dk_at dksX8_bench_6 5 rfl rfl)
theorem dX8_bench_144 : decode cX8_bench 144 = .ok (.ireturn, 1) := dk_172 (dk_at dksX8_bench_6 6 rfl rfl)
abbrev cX8_readAll : ByteArray := prog_19_method_53_code
def yX8_readAll : MethodName := ⟨RX8, "readAll", "(Z)I"⟩
def dkwX8_readAll_3 : List UInt8 := [89, 180, 0, 96, 4, 96, 181, 0, 96, 132, 2, 1, 167, 255, 200]
abbrev dktX8_readAll_3 : List UInt8 := dkwX8_readAll_3 ++ []
def dkwX8_readAll_2 : List UInt8 := [180, 0, 99, 160, 0, 7, 28, 4, 96, 172, 42, 16, 59, 16, 59, 182, 0, 102, 154, 0, 5, 2, 172, 42]
abbrev dktX8_readAll_2 : List UInt8 := dkwX8_readAll_2 ++ dktX8_readAll_3
def dkwX8_readAll_1 : List UInt8 := [3, 172, 3, 61, 42, 27, 28, 182, 1, 16, 154, 0, 5, 2, 172, 42, 182, 0, 109, 42, 180, 0, 96, 42]
abbrev dktX8_readAll_1 : List UInt8 := dkwX8_readAll_1 ++ dktX8_readAll_2
def dkwX8_readAll_0 : List UInt8 := [42, 182, 1, 14, 42, 3, 181, 0, 202, 42, 182, 0, 109, 42, 180, 0, 96, 42, 180, 0, 99, 160, 0, 5]
abbrev dktX8_readAll_0 : List UInt8 := dkwX8_readAll_0 ++ dktX8_readAll_1
theorem dksX8_readAll_0 : cX8_readAll.data.toList.drop 0 = dktX8_readAll_0 := by decide +kernel
theorem dksX8_readAll_1 : cX8_readAll.data.toList.drop 24 = dktX8_readAll_1 := dk_seg dksX8_readAll_0 24 rfl rfl
theorem dksX8_readAll_2 : cX8_readAll.data.toList.drop 48 = dktX8_readAll_2 := dk_seg dksX8_readAll_1 24 rfl rfl
theorem dksX8_readAll_3 : cX8_readAll.data.toList.drop 72 = dktX8_readAll_3 := dk_seg dksX8_readAll_2 24 rfl rfl
theorem dX8_readAll_0 : decode cX8_readAll 0 = .ok (.aload_n 0, 1) := dk_42 (dk_at dksX8_readAll_0 0 rfl rfl)
theorem dX8_readAll_1 : decode cX8_readAll 1 = .ok (.invokevirtual 270, 3) := dk_182 1 14 (dk_at dksX8_readAll_0 1 rfl rfl)
theorem dX8_readAll_4 : decode cX8_readAll 4 = .ok (.aload_n 0, 1) := dk_42 (dk_at dksX8_readAll_0 4 rfl rfl)
theorem dX8_readAll_5 : decode cX8_readAll 5 = .ok (.iconst 0, 1) := dk_3 (dk_at dksX8_readAll_0 5 rfl rfl)
theorem dX8_readAll_6 : decode cX8_readAll 6 = .ok (.putfield 202, 3) := dk_181 0 202 (dk_at dksX8_readAll_0 6 rfl rfl)
theorem dX8_readAll_9 : decode cX8_readAll 9 = .ok (.aload_n 0, 1) := dk_42 (dk_at dksX8_readAll_0 9 rfl rfl)
theorem dX8_readAll_10 : decode cX8_readAll 10 = .ok (.invokevirtual 109, 3) := dk_182 0 109 (dk_at dksX8_readAll_0 10 rfl rfl)
theorem dX8_readAll_13 : decode cX8_readAll 13 = .ok (.aload_n 0, 1) := dk_42 (dk_at dksX8_readAll_0 13 rfl rfl)
theorem dX8_readAll_14 : decode cX8_readAll 14 = .ok (.getfield 96, 3) := dk_180 0 96 (dk_at dksX8_readAll_0 14 rfl rfl)
theorem dX8_readAll_17 : decode cX8_readAll 17 = .ok (.aload_n 0, 1) := dk_42 (dk_at dksX8_readAll_0 17 rfl rfl)
theorem dX8_readAll_18 : decode cX8_readAll 18 = .ok (.getfield 99, 3) := dk_180 0 99 (dk_at dksX8_readAll_0 18 rfl rfl)
theorem dX8_readAll_21 : decode cX8_readAll 21 = .ok (.if_icmp .ne 5, 3) := dk_160 0 5 (dk_at dksX8_readAll_0 21 rfl rfl)
theorem dX8_readAll_24 : decode cX8_readAll 24 = .ok (.iconst 0, 1) := dk_3 (dk_at dksX8_readAll_1 0 rfl rfl)
theorem dX8_readAll_25 : decode cX8_readAll 25 = .ok (.ireturn, 1) := dk_172 (dk_at dksX8_readAll_1 1 rfl rfl)
theorem dX8_readAll_26 : decode cX8_readAll 26 = .ok (.iconst 0, 1) := dk_3 (dk_at dksX8_readAll_1 2 rfl rfl)
theorem dX8_readAll_27 : decode cX8_readAll 27 = .ok (.istore_n 2, 1) := dk_61 (dk_at dksX8_readAll_1 3 rfl rfl)
theorem dX8_readAll_28 : decode cX8_readAll 28 = .ok (.aload_n 0, 1) := dk_42 (dk_at dksX8_readAll_1 4 rfl rfl)
theorem dX8_readAll_29 : decode cX8_readAll 29 = .ok (.iload_n 1, 1) := dk_27 (dk_at dksX8_readAll_1 5 rfl rfl)
theorem dX8_readAll_30 : decode cX8_readAll 30 = .ok (.iload_n 2, 1) := dk_28 (dk_at dksX8_readAll_1 6 rfl rfl)
theorem dX8_readAll_31 : decode cX8_readAll 31 = .ok (.invokevirtual 272, 3) := dk_182 1 16 (dk_at dksX8_readAll_1 7 rfl rfl)
theorem dX8_readAll_34 : decode cX8_readAll 34 = .ok (.ifCond .ne 5, 3) := dk_154 0 5 (dk_at dksX8_readAll_1 10 rfl rfl)
theorem dX8_readAll_37 : decode cX8_readAll 37 = .ok (.iconst (-1), 1) := dk_2 (dk_at dksX8_readAll_1 13 rfl rfl)
theorem dX8_readAll_38 : decode cX8_readAll 38 = .ok (.ireturn, 1) := dk_172 (dk_at dksX8_readAll_1 14 rfl rfl)
theorem dX8_readAll_39 : decode cX8_readAll 39 = .ok (.aload_n 0, 1) := dk_42 (dk_at dksX8_readAll_1 15 rfl rfl)
theorem dX8_readAll_40 : decode cX8_readAll 40 = .ok (.invokevirtual 109, 3) := dk_182 0 109 (dk_at dksX8_readAll_1 16 rfl rfl)
theorem dX8_readAll_43 : decode cX8_readAll 43 = .ok (.aload_n 0, 1) := dk_42 (dk_at dksX8_readAll_1 19 rfl rfl)
theorem dX8_readAll_44 : decode cX8_readAll 44 = .ok (.getfield 96, 3) := dk_180 0 96 (dk_at dksX8_readAll_1 20 rfl rfl)
theorem dX8_readAll_47 : decode cX8_readAll 47 = .ok (.aload_n 0, 1) := dk_42 (dk_at dksX8_readAll_1 23 rfl rfl)
theorem dX8_readAll_48 : decode cX8_readAll 48 = .ok (.getfield 99, 3) := dk_180 0 99 (dk_at dksX8_readAll_2 0 rfl rfl)
theorem dX8_readAll_51 : decode cX8_readAll 51 = .ok (.if_icmp .ne 7, 3) := dk_160 0 7 (dk_at dksX8_readAll_2 3 rfl rfl)
theorem dX8_readAll_54 : decode cX8_readAll 54 = .ok (.iload_n 2, 1) := dk_28 (dk_at dksX8_readAll_2 6 rfl rfl)
theorem dX8_readAll_55 : decode cX8_readAll 55 = .ok (.iconst 1, 1) := dk_4 (dk_at dksX8_readAll_2 7 rfl rfl)
theorem dX8_readAll_56 : decode cX8_readAll 56 = .ok (.iadd, 1) := dk_96 (dk_at dksX8_readAll_2 8 rfl rfl)
theorem dX8_readAll_57 : decode cX8_readAll 57 = .ok (.ireturn, 1) := dk_172 (dk_at dksX8_readAll_2 9 rfl rfl)
theorem dX8_readAll_58 : decode cX8_readAll 58 = .ok (.aload_n 0, 1) := dk_42 (dk_at dksX8_readAll_2 10 rfl rfl)
theorem dX8_readAll_59 : decode cX8_readAll 59 = .ok (.bipush 59, 2) := dk_16 59 (dk_at dksX8_readAll_2 11 rfl rfl)
theorem dX8_readAll_61 : decode cX8_readAll 61 = .ok (.bipush 59, 2) := dk_16 59 (dk_at dksX8_readAll_2 13 rfl rfl)
theorem dX8_readAll_63 : decode cX8_readAll 63 = .ok (.invokevirtual 102, 3) := dk_182 0 102 (dk_at dksX8_readAll_2 15 rfl rfl)
theorem dX8_readAll_66 : decode cX8_readAll 66 = .ok (.ifCond .ne 5, 3) := dk_154 0 5 (dk_at dksX8_readAll_2 18 rfl rfl)
theorem dX8_readAll_69 : decode cX8_readAll 69 = .ok (.iconst (-1), 1) := dk_2 (dk_at dksX8_readAll_2 21 rfl rfl)
theorem dX8_readAll_70 : decode cX8_readAll 70 = .ok (.ireturn, 1) := dk_172 (dk_at dksX8_readAll_2 22 rfl rfl)
theorem dX8_readAll_71 : decode cX8_readAll 71 = .ok (.aload_n 0, 1) := dk_42 (dk_at dksX8_readAll_2 23 rfl rfl)
theorem dX8_readAll_72 : decode cX8_readAll 72 = .ok (.dup, 1) := dk_89 (dk_at dksX8_readAll_3 0 rfl rfl)
theorem dX8_readAll_73 : decode cX8_readAll 73 = .ok (.getfield 96, 3) := dk_180 0 96 (dk_at dksX8_readAll_3 1 rfl rfl)
theorem dX8_readAll_76 : decode cX8_readAll 76 = .ok (.iconst 1, 1) := dk_4 (dk_at dksX8_readAll_3 4 rfl rfl)
theorem dX8_readAll_77 : decode cX8_readAll 77 = .ok (.iadd, 1) := dk_96 (dk_at dksX8_readAll_3 5 rfl rfl)
theorem dX8_readAll_78 : decode cX8_readAll 78 = .ok (.putfield 96, 3) := dk_181 0 96 (dk_at dksX8_readAll_3 6 rfl rfl)
theorem dX8_readAll_81 : decode cX8_readAll 81 = .ok (.iinc 2 1, 3) := dk_132 2 1 (dk_at dksX8_readAll_3 9 rfl rfl)
theorem dX8_readAll_84 : decode cX8_readAll 84 = .ok (.goto (-56), 3) := dk_167 255 200 (dk_at dksX8_readAll_3 12 rfl rfl)
abbrev cX8_uses : ByteArray := prog_19_method_33_code
def yX8_uses : MethodName := ⟨RX8, "uses", "()V"⟩
def dkwX8_uses_0 : List UInt8 := [42, 3, 181, 0, 3, 42, 42, 180, 0, 93, 181, 0, 99, 42, 3, 181, 0, 93, 42, 3, 181, 0, 96, 177]
abbrev dktX8_uses_0 : List UInt8 := dkwX8_uses_0 ++ []
theorem dksX8_uses_0 : cX8_uses.data.toList.drop 0 = dktX8_uses_0 := by decide +kernel
theorem dX8_uses_0 : decode cX8_uses 0 = .ok (.aload_n 0, 1) := dk_42 (dk_at dksX8_uses_0 0 rfl rfl)
theorem dX8_uses_1 : decode cX8_uses 1 = .ok (.iconst 0, 1) := dk_3 (dk_at dksX8_uses_0 1 rfl rfl)
theorem dX8_uses_2 : decode cX8_uses 2 = .ok (.putfield 3, 3) := dk_181 0 3 (dk_at dksX8_uses_0 2 rfl rfl)
theorem dX8_uses_5 : decode cX8_uses 5 = .ok (.aload_n 0, 1) := dk_42 (dk_at dksX8_uses_0 5 rfl rfl)
theorem dX8_uses_6 : decode cX8_uses 6 = .ok (.aload_n 0, 1) := dk_42 (dk_at dksX8_uses_0 6 rfl rfl)
theorem dX8_uses_7 : decode cX8_uses 7 = .ok (.getfield 93, 3) := dk_180 0 93 (dk_at dksX8_uses_0 7 rfl rfl)
theorem dX8_uses_10 : decode cX8_uses 10 = .ok (.putfield 99, 3) := dk_181 0 99 (dk_at dksX8_uses_0 10 rfl rfl)
theorem dX8_uses_13 : decode cX8_uses 13 = .ok (.aload_n 0, 1) := dk_42 (dk_at dksX8_uses_0 13 rfl rfl)
theorem dX8_uses_14 : decode cX8_uses 14 = .ok (.iconst 0, 1) := dk_3 (dk_at dksX8_uses_0 14 rfl rfl)
theorem dX8_uses_15 : decode cX8_uses 15 = .ok (.putfield 93, 3) := dk_181 0 93 (dk_at dksX8_uses_0 15 rfl rfl)
theorem dX8_uses_18 : decode cX8_uses 18 = .ok (.aload_n 0, 1) := dk_42 (dk_at dksX8_uses_0 18 rfl rfl)
theorem dX8_uses_19 : decode cX8_uses 19 = .ok (.iconst 0, 1) := dk_3 (dk_at dksX8_uses_0 19 rfl rfl)
theorem dX8_uses_20 : decode cX8_uses 20 = .ok (.putfield 96, 3) := dk_181 0 96 (dk_at dksX8_uses_0 20 rfl rfl)
theorem dX8_uses_23 : decode cX8_uses 23 = .ok (.return_, 1) := dk_177 (dk_at dksX8_uses_0 23 rfl rfl)
abbrev cX8_blanks : ByteArray := prog_19_method_25_code
def yX8_blanks : MethodName := ⟨RX8, "blanks", "()V"⟩
def dkwX8_blanks_1 : List UInt8 := [42, 42, 180, 0, 96, 181, 0, 106, 177]
abbrev dktX8_blanks_1 : List UInt8 := dkwX8_blanks_1 ++ []
def dkwX8_blanks_0 : List UInt8 := [42, 16, 32, 16, 32, 182, 0, 102, 153, 0, 16, 42, 89, 180, 0, 96, 4, 96, 181, 0, 96, 167, 255, 235]
abbrev dktX8_blanks_0 : List UInt8 := dkwX8_blanks_0 ++ dktX8_blanks_1
theorem dksX8_blanks_0 : cX8_blanks.data.toList.drop 0 = dktX8_blanks_0 := by decide +kernel
theorem dksX8_blanks_1 : cX8_blanks.data.toList.drop 24 = dktX8_blanks_1 := dk_seg dksX8_blanks_0 24 rfl rfl
theorem dX8_blanks_0 : decode cX8_blanks 0 = .ok (.aload_n 0, 1) := dk_42 (dk_at dksX8_blanks_0 0 rfl rfl)
theorem dX8_blanks_1 : decode cX8_blanks 1 = .ok (.bipush 32, 2) := dk_16 32 (dk_at dksX8_blanks_0 1 rfl rfl)
theorem dX8_blanks_3 : decode cX8_blanks 3 = .ok (.bipush 32, 2) := dk_16 32 (dk_at dksX8_blanks_0 3 rfl rfl)
theorem dX8_blanks_5 : decode cX8_blanks 5 = .ok (.invokevirtual 102, 3) := dk_182 0 102 (dk_at dksX8_blanks_0 5 rfl rfl)
theorem dX8_blanks_8 : decode cX8_blanks 8 = .ok (.ifCond .eq 16, 3) := dk_153 0 16 (dk_at dksX8_blanks_0 8 rfl rfl)
theorem dX8_blanks_11 : decode cX8_blanks 11 = .ok (.aload_n 0, 1) := dk_42 (dk_at dksX8_blanks_0 11 rfl rfl)
theorem dX8_blanks_12 : decode cX8_blanks 12 = .ok (.dup, 1) := dk_89 (dk_at dksX8_blanks_0 12 rfl rfl)
theorem dX8_blanks_13 : decode cX8_blanks 13 = .ok (.getfield 96, 3) := dk_180 0 96 (dk_at dksX8_blanks_0 13 rfl rfl)
theorem dX8_blanks_16 : decode cX8_blanks 16 = .ok (.iconst 1, 1) := dk_4 (dk_at dksX8_blanks_0 16 rfl rfl)
theorem dX8_blanks_17 : decode cX8_blanks 17 = .ok (.iadd, 1) := dk_96 (dk_at dksX8_blanks_0 17 rfl rfl)
theorem dX8_blanks_18 : decode cX8_blanks 18 = .ok (.putfield 96, 3) := dk_181 0 96 (dk_at dksX8_blanks_0 18 rfl rfl)
theorem dX8_blanks_21 : decode cX8_blanks 21 = .ok (.goto (-21), 3) := dk_167 255 235 (dk_at dksX8_blanks_0 21 rfl rfl)
theorem dX8_blanks_24 : decode cX8_blanks 24 = .ok (.aload_n 0, 1) := dk_42 (dk_at dksX8_blanks_1 0 rfl rfl)
theorem dX8_blanks_25 : decode cX8_blanks 25 = .ok (.aload_n 0, 1) := dk_42 (dk_at dksX8_blanks_1 1 rfl rfl)
theorem dX8_blanks_26 : decode cX8_blanks 26 = .ok (.getfield 96, 3) := dk_180 0 96 (dk_at dksX8_blanks_1 2 rfl rfl)
theorem dX8_blanks_29 : decode cX8_blanks 29 = .ok (.putfield 106, 3) := dk_181 0 106 (dk_at dksX8_blanks_1 5 rfl rfl)
theorem dX8_blanks_32 : decode cX8_blanks 32 = .ok (.return_, 1) := dk_177 (dk_at dksX8_blanks_1 8 rfl rfl)
abbrev cX8_isAt : ByteArray := prog_19_method_24_code
def yX8_isAt : MethodName := ⟨RX8, "isAt", "(II)Z"⟩
def dkwX8_isAt_1 : List UInt8 := [42, 180, 0, 29, 42, 180, 0, 96, 51, 28, 163, 0, 7, 4, 167, 0, 4, 3, 172]
abbrev dktX8_isAt_1 : List UInt8 := dkwX8_isAt_1 ++ []
def dkwX8_isAt_0 : List UInt8 := [42, 180, 0, 96, 42, 180, 0, 99, 162, 0, 33, 42, 180, 0, 29, 42, 180, 0, 96, 51, 27, 161, 0, 20]
abbrev dktX8_isAt_0 : List UInt8 := dkwX8_isAt_0 ++ dktX8_isAt_1
theorem dksX8_isAt_0 : cX8_isAt.data.toList.drop 0 = dktX8_isAt_0 := by decide +kernel
theorem dksX8_isAt_1 : cX8_isAt.data.toList.drop 24 = dktX8_isAt_1 := dk_seg dksX8_isAt_0 24 rfl rfl
theorem dX8_isAt_0 : decode cX8_isAt 0 = .ok (.aload_n 0, 1) := dk_42 (dk_at dksX8_isAt_0 0 rfl rfl)
theorem dX8_isAt_1 : decode cX8_isAt 1 = .ok (.getfield 96, 3) := dk_180 0 96 (dk_at dksX8_isAt_0 1 rfl rfl)
theorem dX8_isAt_4 : decode cX8_isAt 4 = .ok (.aload_n 0, 1) := dk_42 (dk_at dksX8_isAt_0 4 rfl rfl)
theorem dX8_isAt_5 : decode cX8_isAt 5 = .ok (.getfield 99, 3) := dk_180 0 99 (dk_at dksX8_isAt_0 5 rfl rfl)
theorem dX8_isAt_8 : decode cX8_isAt 8 = .ok (.if_icmp .ge 33, 3) := dk_162 0 33 (dk_at dksX8_isAt_0 8 rfl rfl)
theorem dX8_isAt_11 : decode cX8_isAt 11 = .ok (.aload_n 0, 1) := dk_42 (dk_at dksX8_isAt_0 11 rfl rfl)
theorem dX8_isAt_12 : decode cX8_isAt 12 = .ok (.getfield 29, 3) := dk_180 0 29 (dk_at dksX8_isAt_0 12 rfl rfl)
theorem dX8_isAt_15 : decode cX8_isAt 15 = .ok (.aload_n 0, 1) := dk_42 (dk_at dksX8_isAt_0 15 rfl rfl)
theorem dX8_isAt_16 : decode cX8_isAt 16 = .ok (.getfield 96, 3) := dk_180 0 96 (dk_at dksX8_isAt_0 16 rfl rfl)
theorem dX8_isAt_19 : decode cX8_isAt 19 = .ok (.baload, 1) := dk_51 (dk_at dksX8_isAt_0 19 rfl rfl)
theorem dX8_isAt_20 : decode cX8_isAt 20 = .ok (.iload_n 1, 1) := dk_27 (dk_at dksX8_isAt_0 20 rfl rfl)
theorem dX8_isAt_21 : decode cX8_isAt 21 = .ok (.if_icmp .lt 20, 3) := dk_161 0 20 (dk_at dksX8_isAt_0 21 rfl rfl)
theorem dX8_isAt_24 : decode cX8_isAt 24 = .ok (.aload_n 0, 1) := dk_42 (dk_at dksX8_isAt_1 0 rfl rfl)
theorem dX8_isAt_25 : decode cX8_isAt 25 = .ok (.getfield 29, 3) := dk_180 0 29 (dk_at dksX8_isAt_1 1 rfl rfl)
theorem dX8_isAt_28 : decode cX8_isAt 28 = .ok (.aload_n 0, 1) := dk_42 (dk_at dksX8_isAt_1 4 rfl rfl)
theorem dX8_isAt_29 : decode cX8_isAt 29 = .ok (.getfield 96, 3) := dk_180 0 96 (dk_at dksX8_isAt_1 5 rfl rfl)
theorem dX8_isAt_32 : decode cX8_isAt 32 = .ok (.baload, 1) := dk_51 (dk_at dksX8_isAt_1 8 rfl rfl)
theorem dX8_isAt_33 : decode cX8_isAt 33 = .ok (.iload_n 2, 1) := dk_28 (dk_at dksX8_isAt_1 9 rfl rfl)
theorem dX8_isAt_34 : decode cX8_isAt 34 = .ok (.if_icmp .gt 7, 3) := dk_163 0 7 (dk_at dksX8_isAt_1 10 rfl rfl)
theorem dX8_isAt_37 : decode cX8_isAt 37 = .ok (.iconst 1, 1) := dk_4 (dk_at dksX8_isAt_1 13 rfl rfl)
theorem dX8_isAt_38 : decode cX8_isAt 38 = .ok (.goto 4, 3) := dk_167 0 4 (dk_at dksX8_isAt_1 14 rfl rfl)
theorem dX8_isAt_41 : decode cX8_isAt 41 = .ok (.iconst 0, 1) := dk_3 (dk_at dksX8_isAt_1 17 rfl rfl)
theorem dX8_isAt_42 : decode cX8_isAt 42 = .ok (.ireturn, 1) := dk_172 (dk_at dksX8_isAt_1 18 rfl rfl)
abbrev cX8_readLine : ByteArray := prog_19_method_52_code
def yX8_readLine : MethodName := ⟨RX8, "readLine", "(ZI)Z"⟩
def dkwX8_readLine_1 : List UInt8 := [182, 1, 8, 153, 0, 18, 167, 0, 11, 42, 28, 182, 1, 11, 153, 0, 7, 4, 167, 0, 4, 3, 172]
abbrev dktX8_readLine_1 : List UInt8 := dkwX8_readLine_1 ++ []
def dkwX8_readLine_0 : List UInt8 := [42, 182, 0, 121, 28, 27, 153, 0, 8, 16, 14, 167, 0, 5, 16, 12, 162, 0, 29, 27, 153, 0, 13, 42]
abbrev dktX8_readLine_0 : List UInt8 := dkwX8_readLine_0 ++ dktX8_readLine_1
theorem dksX8_readLine_0 : cX8_readLine.data.toList.drop 0 = dktX8_readLine_0 := by decide +kernel
theorem dksX8_readLine_1 : cX8_readLine.data.toList.drop 24 = dktX8_readLine_1 := dk_seg dksX8_readLine_0 24 rfl rfl
theorem dX8_readLine_0 : decode cX8_readLine 0 = .ok (.aload_n 0, 1) := dk_42 (dk_at dksX8_readLine_0 0 rfl rfl)
theorem dX8_readLine_1 : decode cX8_readLine 1 = .ok (.invokevirtual 121, 3) := dk_182 0 121 (dk_at dksX8_readLine_0 1 rfl rfl)
theorem dX8_readLine_4 : decode cX8_readLine 4 = .ok (.iload_n 2, 1) := dk_28 (dk_at dksX8_readLine_0 4 rfl rfl)
theorem dX8_readLine_5 : decode cX8_readLine 5 = .ok (.iload_n 1, 1) := dk_27 (dk_at dksX8_readLine_0 5 rfl rfl)
theorem dX8_readLine_6 : decode cX8_readLine 6 = .ok (.ifCond .eq 8, 3) := dk_153 0 8 (dk_at dksX8_readLine_0 6 rfl rfl)
theorem dX8_readLine_9 : decode cX8_readLine 9 = .ok (.bipush 14, 2) := dk_16 14 (dk_at dksX8_readLine_0 9 rfl rfl)
theorem dX8_readLine_11 : decode cX8_readLine 11 = .ok (.goto 5, 3) := dk_167 0 5 (dk_at dksX8_readLine_0 11 rfl rfl)
theorem dX8_readLine_14 : decode cX8_readLine 14 = .ok (.bipush 12, 2) := dk_16 12 (dk_at dksX8_readLine_0 14 rfl rfl)
theorem dX8_readLine_16 : decode cX8_readLine 16 = .ok (.if_icmp .ge 29, 3) := dk_162 0 29 (dk_at dksX8_readLine_0 16 rfl rfl)
theorem dX8_readLine_19 : decode cX8_readLine 19 = .ok (.iload_n 1, 1) := dk_27 (dk_at dksX8_readLine_0 19 rfl rfl)
theorem dX8_readLine_20 : decode cX8_readLine 20 = .ok (.ifCond .eq 13, 3) := dk_153 0 13 (dk_at dksX8_readLine_0 20 rfl rfl)
theorem dX8_readLine_23 : decode cX8_readLine 23 = .ok (.aload_n 0, 1) := dk_42 (dk_at dksX8_readLine_0 23 rfl rfl)
theorem dX8_readLine_24 : decode cX8_readLine 24 = .ok (.invokevirtual 264, 3) := dk_182 1 8 (dk_at dksX8_readLine_1 0 rfl rfl)
theorem dX8_readLine_27 : decode cX8_readLine 27 = .ok (.ifCond .eq 18, 3) := dk_153 0 18 (dk_at dksX8_readLine_1 3 rfl rfl)
theorem dX8_readLine_30 : decode cX8_readLine 30 = .ok (.goto 11, 3) := dk_167 0 11 (dk_at dksX8_readLine_1 6 rfl rfl)
theorem dX8_readLine_33 : decode cX8_readLine 33 = .ok (.aload_n 0, 1) := dk_42 (dk_at dksX8_readLine_1 9 rfl rfl)
theorem dX8_readLine_34 : decode cX8_readLine 34 = .ok (.iload_n 2, 1) := dk_28 (dk_at dksX8_readLine_1 10 rfl rfl)
theorem dX8_readLine_35 : decode cX8_readLine 35 = .ok (.invokevirtual 267, 3) := dk_182 1 11 (dk_at dksX8_readLine_1 11 rfl rfl)
theorem dX8_readLine_38 : decode cX8_readLine 38 = .ok (.ifCond .eq 7, 3) := dk_153 0 7 (dk_at dksX8_readLine_1 14 rfl rfl)
theorem dX8_readLine_41 : decode cX8_readLine 41 = .ok (.iconst 1, 1) := dk_4 (dk_at dksX8_readLine_1 17 rfl rfl)
theorem dX8_readLine_42 : decode cX8_readLine 42 = .ok (.goto 4, 3) := dk_167 0 4 (dk_at dksX8_readLine_1 18 rfl rfl)
theorem dX8_readLine_45 : decode cX8_readLine 45 = .ok (.iconst 0, 1) := dk_3 (dk_at dksX8_readLine_1 21 rfl rfl)
theorem dX8_readLine_46 : decode cX8_readLine 46 = .ok (.ireturn, 1) := dk_172 (dk_at dksX8_readLine_1 22 rfl rfl)
abbrev cX8_letters : ByteArray := prog_19_method_26_code
def yX8_letters : MethodName := ⟨RX8, "letters", "()V"⟩
def dkwX8_letters_1 : List UInt8 := [181, 0, 96, 167, 255, 235, 177]
abbrev dktX8_letters_1 : List UInt8 := dkwX8_letters_1 ++ []
def dkwX8_letters_0 : List UInt8 := [42, 182, 0, 109, 42, 16, 97, 16, 122, 182, 0, 102, 153, 0, 16, 42, 89, 180, 0, 96, 4, 96]
abbrev dktX8_letters_0 : List UInt8 := dkwX8_letters_0 ++ dktX8_letters_1
theorem dksX8_letters_0 : cX8_letters.data.toList.drop 0 = dktX8_letters_0 := by decide +kernel
theorem dksX8_letters_1 : cX8_letters.data.toList.drop 22 = dktX8_letters_1 := dk_seg dksX8_letters_0 22 rfl rfl
theorem dX8_letters_0 : decode cX8_letters 0 = .ok (.aload_n 0, 1) := dk_42 (dk_at dksX8_letters_0 0 rfl rfl)
theorem dX8_letters_1 : decode cX8_letters 1 = .ok (.invokevirtual 109, 3) := dk_182 0 109 (dk_at dksX8_letters_0 1 rfl rfl)
theorem dX8_letters_4 : decode cX8_letters 4 = .ok (.aload_n 0, 1) := dk_42 (dk_at dksX8_letters_0 4 rfl rfl)
theorem dX8_letters_5 : decode cX8_letters 5 = .ok (.bipush 97, 2) := dk_16 97 (dk_at dksX8_letters_0 5 rfl rfl)
theorem dX8_letters_7 : decode cX8_letters 7 = .ok (.bipush 122, 2) := dk_16 122 (dk_at dksX8_letters_0 7 rfl rfl)
theorem dX8_letters_9 : decode cX8_letters 9 = .ok (.invokevirtual 102, 3) := dk_182 0 102 (dk_at dksX8_letters_0 9 rfl rfl)
theorem dX8_letters_12 : decode cX8_letters 12 = .ok (.ifCond .eq 16, 3) := dk_153 0 16 (dk_at dksX8_letters_0 12 rfl rfl)
theorem dX8_letters_15 : decode cX8_letters 15 = .ok (.aload_n 0, 1) := dk_42 (dk_at dksX8_letters_0 15 rfl rfl)
theorem dX8_letters_16 : decode cX8_letters 16 = .ok (.dup, 1) := dk_89 (dk_at dksX8_letters_0 16 rfl rfl)
theorem dX8_letters_17 : decode cX8_letters 17 = .ok (.getfield 96, 3) := dk_180 0 96 (dk_at dksX8_letters_0 17 rfl rfl)
theorem dX8_letters_20 : decode cX8_letters 20 = .ok (.iconst 1, 1) := dk_4 (dk_at dksX8_letters_0 20 rfl rfl)
theorem dX8_letters_21 : decode cX8_letters 21 = .ok (.iadd, 1) := dk_96 (dk_at dksX8_letters_0 21 rfl rfl)
theorem dX8_letters_22 : decode cX8_letters 22 = .ok (.putfield 96, 3) := dk_181 0 96 (dk_at dksX8_letters_1 0 rfl rfl)
theorem dX8_letters_25 : decode cX8_letters 25 = .ok (.goto (-21), 3) := dk_167 255 235 (dk_at dksX8_letters_1 3 rfl rfl)
theorem dX8_letters_28 : decode cX8_letters 28 = .ok (.return_, 1) := dk_177 (dk_at dksX8_letters_1 6 rfl rfl)
abbrev cX8_readBenchLine : ByteArray := prog_19_method_42_code
def yX8_readBenchLine : MethodName := ⟨RX8, "readBenchLine", "()Z"⟩
def dkwX8_readBenchLine_5 : List UInt8 := [42, 16, 9, 17, 3, 231, 182, 0, 172, 153, 0, 7, 4, 167, 0, 4, 3, 172]
abbrev dktX8_readBenchLine_5 : List UInt8 := dkwX8_readBenchLine_5 ++ []
def dkwX8_readBenchLine_4 : List UInt8 := [182, 0, 124, 153, 0, 12, 42, 16, 7, 16, 100, 182, 0, 172, 172, 42, 18, 200, 182, 0, 124, 153, 0, 19]
abbrev dktX8_readBenchLine_4 : List UInt8 := dkwX8_readBenchLine_4 ++ dktX8_readBenchLine_5
def dkwX8_readBenchLine_3 : List UInt8 := [172, 42, 18, 196, 182, 0, 124, 153, 0, 12, 42, 16, 6, 16, 7, 182, 0, 172, 172, 42, 18, 198]
abbrev dktX8_readBenchLine_3 : List UInt8 := dkwX8_readBenchLine_3 ++ dktX8_readBenchLine_4
def dkwX8_readBenchLine_2 : List UInt8 := [153, 0, 11, 42, 7, 16, 9, 182, 0, 172, 172, 42, 18, 191, 182, 0, 124, 153, 0, 8, 42, 182, 0, 193]
abbrev dktX8_readBenchLine_2 : List UInt8 := dkwX8_readBenchLine_2 ++ dktX8_readBenchLine_3
def dkwX8_readBenchLine_1 : List UInt8 := [182, 0, 182, 172, 42, 18, 185, 182, 0, 124, 153, 0, 8, 42, 182, 0, 186, 172, 42, 18, 189, 182, 0, 124]
abbrev dktX8_readBenchLine_1 : List UInt8 := dkwX8_readBenchLine_1 ++ dktX8_readBenchLine_2
def dkwX8_readBenchLine_0 : List UInt8 := [42, 18, 175, 182, 0, 124, 153, 0, 8, 42, 182, 0, 177, 172, 42, 18, 180, 182, 0, 124, 153, 0, 8, 42]
abbrev dktX8_readBenchLine_0 : List UInt8 := dkwX8_readBenchLine_0 ++ dktX8_readBenchLine_1
theorem dksX8_readBenchLine_0 : cX8_readBenchLine.data.toList.drop 0 = dktX8_readBenchLine_0 := by decide +kernel
theorem dksX8_readBenchLine_1 : cX8_readBenchLine.data.toList.drop 24 = dktX8_readBenchLine_1 := dk_seg dksX8_readBenchLine_0 24 rfl rfl
theorem dksX8_readBenchLine_2 : cX8_readBenchLine.data.toList.drop 48 = dktX8_readBenchLine_2 := dk_seg dksX8_readBenchLine_1 24 rfl rfl
theorem dksX8_readBenchLine_3 : cX8_readBenchLine.data.toList.drop 72 = dktX8_readBenchLine_3 := dk_seg dksX8_readBenchLine_2 24 rfl rfl
theorem dksX8_readBenchLine_4 : cX8_readBenchLine.data.toList.drop 94 = dktX8_readBenchLine_4 := dk_seg dksX8_readBenchLine_3 22 rfl rfl
theorem dksX8_readBenchLine_5 : cX8_readBenchLine.data.toList.drop 118 = dktX8_readBenchLine_5 := dk_seg dksX8_readBenchLine_4 24 rfl rfl
theorem dX8_readBenchLine_0 : decode cX8_readBenchLine 0 = .ok (.aload_n 0, 1) := dk_42 (dk_at dksX8_readBenchLine_0 0 rfl rfl)
theorem dX8_readBenchLine_1 : decode cX8_readBenchLine 1 = .ok (.ldc 175, 2) := dk_18 175 (dk_at dksX8_readBenchLine_0 1 rfl rfl)
theorem dX8_readBenchLine_3 : decode cX8_readBenchLine 3 = .ok (.invokevirtual 124, 3) := dk_182 0 124 (dk_at dksX8_readBenchLine_0 3 rfl rfl)
theorem dX8_readBenchLine_6 : decode cX8_readBenchLine 6 = .ok (.ifCond .eq 8, 3) := dk_153 0 8 (dk_at dksX8_readBenchLine_0 6 rfl rfl)
theorem dX8_readBenchLine_9 : decode cX8_readBenchLine 9 = .ok (.aload_n 0, 1) := dk_42 (dk_at dksX8_readBenchLine_0 9 rfl rfl)
theorem dX8_readBenchLine_10 : decode cX8_readBenchLine 10 = .ok (.invokevirtual 177, 3) := dk_182 0 177 (dk_at dksX8_readBenchLine_0 10 rfl rfl)
theorem dX8_readBenchLine_13 : decode cX8_readBenchLine 13 = .ok (.ireturn, 1) := dk_172 (dk_at dksX8_readBenchLine_0 13 rfl rfl)
theorem dX8_readBenchLine_14 : decode cX8_readBenchLine 14 = .ok (.aload_n 0, 1) := dk_42 (dk_at dksX8_readBenchLine_0 14 rfl rfl)
theorem dX8_readBenchLine_15 : decode cX8_readBenchLine 15 = .ok (.ldc 180, 2) := dk_18 180 (dk_at dksX8_readBenchLine_0 15 rfl rfl)
theorem dX8_readBenchLine_17 : decode cX8_readBenchLine 17 = .ok (.invokevirtual 124, 3) := dk_182 0 124 (dk_at dksX8_readBenchLine_0 17 rfl rfl)
theorem dX8_readBenchLine_20 : decode cX8_readBenchLine 20 = .ok (.ifCond .eq 8, 3) := dk_153 0 8 (dk_at dksX8_readBenchLine_0 20 rfl rfl)
theorem dX8_readBenchLine_23 : decode cX8_readBenchLine 23 = .ok (.aload_n 0, 1) := dk_42 (dk_at dksX8_readBenchLine_0 23 rfl rfl)
theorem dX8_readBenchLine_24 : decode cX8_readBenchLine 24 = .ok (.invokevirtual 182, 3) := dk_182 0 182 (dk_at dksX8_readBenchLine_1 0 rfl rfl)
theorem dX8_readBenchLine_27 : decode cX8_readBenchLine 27 = .ok (.ireturn, 1) := dk_172 (dk_at dksX8_readBenchLine_1 3 rfl rfl)
theorem dX8_readBenchLine_28 : decode cX8_readBenchLine 28 = .ok (.aload_n 0, 1) := dk_42 (dk_at dksX8_readBenchLine_1 4 rfl rfl)
theorem dX8_readBenchLine_29 : decode cX8_readBenchLine 29 = .ok (.ldc 185, 2) := dk_18 185 (dk_at dksX8_readBenchLine_1 5 rfl rfl)
theorem dX8_readBenchLine_31 : decode cX8_readBenchLine 31 = .ok (.invokevirtual 124, 3) := dk_182 0 124 (dk_at dksX8_readBenchLine_1 7 rfl rfl)
theorem dX8_readBenchLine_34 : decode cX8_readBenchLine 34 = .ok (.ifCond .eq 8, 3) := dk_153 0 8 (dk_at dksX8_readBenchLine_1 10 rfl rfl)
theorem dX8_readBenchLine_37 : decode cX8_readBenchLine 37 = .ok (.aload_n 0, 1) := dk_42 (dk_at dksX8_readBenchLine_1 13 rfl rfl)
theorem dX8_readBenchLine_38 : decode cX8_readBenchLine 38 = .ok (.invokevirtual 186, 3) := dk_182 0 186 (dk_at dksX8_readBenchLine_1 14 rfl rfl)
theorem dX8_readBenchLine_41 : decode cX8_readBenchLine 41 = .ok (.ireturn, 1) := dk_172 (dk_at dksX8_readBenchLine_1 17 rfl rfl)
theorem dX8_readBenchLine_42 : decode cX8_readBenchLine 42 = .ok (.aload_n 0, 1) := dk_42 (dk_at dksX8_readBenchLine_1 18 rfl rfl)
theorem dX8_readBenchLine_43 : decode cX8_readBenchLine 43 = .ok (.ldc 189, 2) := dk_18 189 (dk_at dksX8_readBenchLine_1 19 rfl rfl)
theorem dX8_readBenchLine_45 : decode cX8_readBenchLine 45 = .ok (.invokevirtual 124, 3) := dk_182 0 124 (dk_at dksX8_readBenchLine_1 21 rfl rfl)
theorem dX8_readBenchLine_48 : decode cX8_readBenchLine 48 = .ok (.ifCond .eq 11, 3) := dk_153 0 11 (dk_at dksX8_readBenchLine_2 0 rfl rfl)
theorem dX8_readBenchLine_51 : decode cX8_readBenchLine 51 = .ok (.aload_n 0, 1) := dk_42 (dk_at dksX8_readBenchLine_2 3 rfl rfl)
theorem dX8_readBenchLine_52 : decode cX8_readBenchLine 52 = .ok (.iconst 4, 1) := dk_7 (dk_at dksX8_readBenchLine_2 4 rfl rfl)
theorem dX8_readBenchLine_53 : decode cX8_readBenchLine 53 = .ok (.bipush 9, 2) := dk_16 9 (dk_at dksX8_readBenchLine_2 5 rfl rfl)
theorem dX8_readBenchLine_55 : decode cX8_readBenchLine 55 = .ok (.invokevirtual 172, 3) := dk_182 0 172 (dk_at dksX8_readBenchLine_2 7 rfl rfl)
theorem dX8_readBenchLine_58 : decode cX8_readBenchLine 58 = .ok (.ireturn, 1) := dk_172 (dk_at dksX8_readBenchLine_2 10 rfl rfl)
theorem dX8_readBenchLine_59 : decode cX8_readBenchLine 59 = .ok (.aload_n 0, 1) := dk_42 (dk_at dksX8_readBenchLine_2 11 rfl rfl)
theorem dX8_readBenchLine_60 : decode cX8_readBenchLine 60 = .ok (.ldc 191, 2) := dk_18 191 (dk_at dksX8_readBenchLine_2 12 rfl rfl)
theorem dX8_readBenchLine_62 : decode cX8_readBenchLine 62 = .ok (.invokevirtual 124, 3) := dk_182 0 124 (dk_at dksX8_readBenchLine_2 14 rfl rfl)
theorem dX8_readBenchLine_65 : decode cX8_readBenchLine 65 = .ok (.ifCond .eq 8, 3) := dk_153 0 8 (dk_at dksX8_readBenchLine_2 17 rfl rfl)
theorem dX8_readBenchLine_68 : decode cX8_readBenchLine 68 = .ok (.aload_n 0, 1) := dk_42 (dk_at dksX8_readBenchLine_2 20 rfl rfl)
theorem dX8_readBenchLine_69 : decode cX8_readBenchLine 69 = .ok (.invokevirtual 193, 3) := dk_182 0 193 (dk_at dksX8_readBenchLine_2 21 rfl rfl)
theorem dX8_readBenchLine_72 : decode cX8_readBenchLine 72 = .ok (.ireturn, 1) := dk_172 (dk_at dksX8_readBenchLine_3 0 rfl rfl)
theorem dX8_readBenchLine_73 : decode cX8_readBenchLine 73 = .ok (.aload_n 0, 1) := dk_42 (dk_at dksX8_readBenchLine_3 1 rfl rfl)
theorem dX8_readBenchLine_74 : decode cX8_readBenchLine 74 = .ok (.ldc 196, 2) := dk_18 196 (dk_at dksX8_readBenchLine_3 2 rfl rfl)
theorem dX8_readBenchLine_76 : decode cX8_readBenchLine 76 = .ok (.invokevirtual 124, 3) := dk_182 0 124 (dk_at dksX8_readBenchLine_3 4 rfl rfl)
theorem dX8_readBenchLine_79 : decode cX8_readBenchLine 79 = .ok (.ifCond .eq 12, 3) := dk_153 0 12 (dk_at dksX8_readBenchLine_3 7 rfl rfl)
theorem dX8_readBenchLine_82 : decode cX8_readBenchLine 82 = .ok (.aload_n 0, 1) := dk_42 (dk_at dksX8_readBenchLine_3 10 rfl rfl)
theorem dX8_readBenchLine_83 : decode cX8_readBenchLine 83 = .ok (.bipush 6, 2) := dk_16 6 (dk_at dksX8_readBenchLine_3 11 rfl rfl)
theorem dX8_readBenchLine_85 : decode cX8_readBenchLine 85 = .ok (.bipush 7, 2) := dk_16 7 (dk_at dksX8_readBenchLine_3 13 rfl rfl)
theorem dX8_readBenchLine_87 : decode cX8_readBenchLine 87 = .ok (.invokevirtual 172, 3) := dk_182 0 172 (dk_at dksX8_readBenchLine_3 15 rfl rfl)
theorem dX8_readBenchLine_90 : decode cX8_readBenchLine 90 = .ok (.ireturn, 1) := dk_172 (dk_at dksX8_readBenchLine_3 18 rfl rfl)
theorem dX8_readBenchLine_91 : decode cX8_readBenchLine 91 = .ok (.aload_n 0, 1) := dk_42 (dk_at dksX8_readBenchLine_3 19 rfl rfl)
theorem dX8_readBenchLine_92 : decode cX8_readBenchLine 92 = .ok (.ldc 198, 2) := dk_18 198 (dk_at dksX8_readBenchLine_3 20 rfl rfl)
theorem dX8_readBenchLine_94 : decode cX8_readBenchLine 94 = .ok (.invokevirtual 124, 3) := dk_182 0 124 (dk_at dksX8_readBenchLine_4 0 rfl rfl)
theorem dX8_readBenchLine_97 : decode cX8_readBenchLine 97 = .ok (.ifCond .eq 12, 3) := dk_153 0 12 (dk_at dksX8_readBenchLine_4 3 rfl rfl)
theorem dX8_readBenchLine_100 : decode cX8_readBenchLine 100 = .ok (.aload_n 0, 1) := dk_42 (dk_at dksX8_readBenchLine_4 6 rfl rfl)
theorem dX8_readBenchLine_101 : decode cX8_readBenchLine 101 = .ok (.bipush 7, 2) := dk_16 7 (dk_at dksX8_readBenchLine_4 7 rfl rfl)
theorem dX8_readBenchLine_103 : decode cX8_readBenchLine 103 = .ok (.bipush 100, 2) := dk_16 100 (dk_at dksX8_readBenchLine_4 9 rfl rfl)
theorem dX8_readBenchLine_105 : decode cX8_readBenchLine 105 = .ok (.invokevirtual 172, 3) := dk_182 0 172 (dk_at dksX8_readBenchLine_4 11 rfl rfl)
theorem dX8_readBenchLine_108 : decode cX8_readBenchLine 108 = .ok (.ireturn, 1) := dk_172 (dk_at dksX8_readBenchLine_4 14 rfl rfl)
theorem dX8_readBenchLine_109 : decode cX8_readBenchLine 109 = .ok (.aload_n 0, 1) := dk_42 (dk_at dksX8_readBenchLine_4 15 rfl rfl)
theorem dX8_readBenchLine_110 : decode cX8_readBenchLine 110 = .ok (.ldc 200, 2) := dk_18 200 (dk_at dksX8_readBenchLine_4 16 rfl rfl)
theorem dX8_readBenchLine_112 : decode cX8_readBenchLine 112 = .ok (.invokevirtual 124, 3) := dk_182 0 124 (dk_at dksX8_readBenchLine_4 18 rfl rfl)
theorem dX8_readBenchLine_115 : decode cX8_readBenchLine 115 = .ok (.ifCond .eq 19, 3) := dk_153 0 19 (dk_at dksX8_readBenchLine_4 21 rfl rfl)
theorem dX8_readBenchLine_118 : decode cX8_readBenchLine 118 = .ok (.aload_n 0, 1) := dk_42 (dk_at dksX8_readBenchLine_5 0 rfl rfl)
theorem dX8_readBenchLine_119 : decode cX8_readBenchLine 119 = .ok (.bipush 9, 2) := dk_16 9 (dk_at dksX8_readBenchLine_5 1 rfl rfl)
theorem dX8_readBenchLine_121 : decode cX8_readBenchLine 121 = .ok (.sipush 999, 3) := dk_17 3 231 (dk_at dksX8_readBenchLine_5 3 rfl rfl)
theorem dX8_readBenchLine_124 : decode cX8_readBenchLine 124 = .ok (.invokevirtual 172, 3) := dk_182 0 172 (dk_at dksX8_readBenchLine_5 6 rfl rfl)
theorem dX8_readBenchLine_127 : decode cX8_readBenchLine 127 = .ok (.ifCond .eq 7, 3) := dk_153 0 7 (dk_at dksX8_readBenchLine_5 9 rfl rfl)
theorem dX8_readBenchLine_130 : decode cX8_readBenchLine 130 = .ok (.iconst 1, 1) := dk_4 (dk_at dksX8_readBenchLine_5 12 rfl rfl)
theorem dX8_readBenchLine_131 : decode cX8_readBenchLine 131 = .ok (.goto 4, 3) := dk_167 0 4 (dk_at dksX8_readBenchLine_5 13 rfl rfl)
theorem dX8_readBenchLine_134 : decode cX8_readBenchLine 134 = .ok (.iconst 0, 1) := dk_3 (dk_at dksX8_readBenchLine_5 16 rfl rfl)
theorem dX8_readBenchLine_135 : decode cX8_readBenchLine 135 = .ok (.ireturn, 1) := dk_172 (dk_at dksX8_readBenchLine_5 17 rfl rfl)
abbrev cX8_isWord : ByteArray := prog_19_method_27_code
def yX8_isWord : MethodName := ⟨RX8, "isWord", "(Ljava/lang/String;)Z"⟩
def dkwX8_isWord_2 : List UInt8 := [29, 182, 0, 117, 160, 0, 7, 4, 167, 0, 4, 3, 61, 132, 3, 1, 167, 255, 216, 28, 172]
abbrev dktX8_isWord_2 : List UInt8 := dkwX8_isWord_2 ++ []
def dkwX8_isWord_1 : List UInt8 := [28, 153, 0, 42, 29, 43, 182, 0, 112, 162, 0, 34, 42, 180, 0, 29, 42, 180, 0, 106, 29, 96, 51, 43]
abbrev dktX8_isWord_1 : List UInt8 := dkwX8_isWord_1 ++ dktX8_isWord_2
def dkwX8_isWord_0 : List UInt8 := [42, 180, 0, 96, 42, 180, 0, 106, 100, 43, 182, 0, 112, 160, 0, 7, 4, 167, 0, 4, 3, 61, 3, 62]
abbrev dktX8_isWord_0 : List UInt8 := dkwX8_isWord_0 ++ dktX8_isWord_1
theorem dksX8_isWord_0 : cX8_isWord.data.toList.drop 0 = dktX8_isWord_0 := by decide +kernel
theorem dksX8_isWord_1 : cX8_isWord.data.toList.drop 24 = dktX8_isWord_1 := dk_seg dksX8_isWord_0 24 rfl rfl
theorem dksX8_isWord_2 : cX8_isWord.data.toList.drop 48 = dktX8_isWord_2 := dk_seg dksX8_isWord_1 24 rfl rfl
theorem dX8_isWord_0 : decode cX8_isWord 0 = .ok (.aload_n 0, 1) := dk_42 (dk_at dksX8_isWord_0 0 rfl rfl)
theorem dX8_isWord_1 : decode cX8_isWord 1 = .ok (.getfield 96, 3) := dk_180 0 96 (dk_at dksX8_isWord_0 1 rfl rfl)
theorem dX8_isWord_4 : decode cX8_isWord 4 = .ok (.aload_n 0, 1) := dk_42 (dk_at dksX8_isWord_0 4 rfl rfl)
theorem dX8_isWord_5 : decode cX8_isWord 5 = .ok (.getfield 106, 3) := dk_180 0 106 (dk_at dksX8_isWord_0 5 rfl rfl)
theorem dX8_isWord_8 : decode cX8_isWord 8 = .ok (.isub, 1) := dk_100 (dk_at dksX8_isWord_0 8 rfl rfl)
theorem dX8_isWord_9 : decode cX8_isWord 9 = .ok (.aload_n 1, 1) := dk_43 (dk_at dksX8_isWord_0 9 rfl rfl)
theorem dX8_isWord_10 : decode cX8_isWord 10 = .ok (.invokevirtual 112, 3) := dk_182 0 112 (dk_at dksX8_isWord_0 10 rfl rfl)
theorem dX8_isWord_13 : decode cX8_isWord 13 = .ok (.if_icmp .ne 7, 3) := dk_160 0 7 (dk_at dksX8_isWord_0 13 rfl rfl)
theorem dX8_isWord_16 : decode cX8_isWord 16 = .ok (.iconst 1, 1) := dk_4 (dk_at dksX8_isWord_0 16 rfl rfl)
theorem dX8_isWord_17 : decode cX8_isWord 17 = .ok (.goto 4, 3) := dk_167 0 4 (dk_at dksX8_isWord_0 17 rfl rfl)
theorem dX8_isWord_20 : decode cX8_isWord 20 = .ok (.iconst 0, 1) := dk_3 (dk_at dksX8_isWord_0 20 rfl rfl)
theorem dX8_isWord_21 : decode cX8_isWord 21 = .ok (.istore_n 2, 1) := dk_61 (dk_at dksX8_isWord_0 21 rfl rfl)
theorem dX8_isWord_22 : decode cX8_isWord 22 = .ok (.iconst 0, 1) := dk_3 (dk_at dksX8_isWord_0 22 rfl rfl)
theorem dX8_isWord_23 : decode cX8_isWord 23 = .ok (.istore_n 3, 1) := dk_62 (dk_at dksX8_isWord_0 23 rfl rfl)
theorem dX8_isWord_24 : decode cX8_isWord 24 = .ok (.iload_n 2, 1) := dk_28 (dk_at dksX8_isWord_1 0 rfl rfl)
theorem dX8_isWord_25 : decode cX8_isWord 25 = .ok (.ifCond .eq 42, 3) := dk_153 0 42 (dk_at dksX8_isWord_1 1 rfl rfl)
theorem dX8_isWord_28 : decode cX8_isWord 28 = .ok (.iload_n 3, 1) := dk_29 (dk_at dksX8_isWord_1 4 rfl rfl)
theorem dX8_isWord_29 : decode cX8_isWord 29 = .ok (.aload_n 1, 1) := dk_43 (dk_at dksX8_isWord_1 5 rfl rfl)
theorem dX8_isWord_30 : decode cX8_isWord 30 = .ok (.invokevirtual 112, 3) := dk_182 0 112 (dk_at dksX8_isWord_1 6 rfl rfl)
theorem dX8_isWord_33 : decode cX8_isWord 33 = .ok (.if_icmp .ge 34, 3) := dk_162 0 34 (dk_at dksX8_isWord_1 9 rfl rfl)
theorem dX8_isWord_36 : decode cX8_isWord 36 = .ok (.aload_n 0, 1) := dk_42 (dk_at dksX8_isWord_1 12 rfl rfl)
theorem dX8_isWord_37 : decode cX8_isWord 37 = .ok (.getfield 29, 3) := dk_180 0 29 (dk_at dksX8_isWord_1 13 rfl rfl)
theorem dX8_isWord_40 : decode cX8_isWord 40 = .ok (.aload_n 0, 1) := dk_42 (dk_at dksX8_isWord_1 16 rfl rfl)
theorem dX8_isWord_41 : decode cX8_isWord 41 = .ok (.getfield 106, 3) := dk_180 0 106 (dk_at dksX8_isWord_1 17 rfl rfl)
theorem dX8_isWord_44 : decode cX8_isWord 44 = .ok (.iload_n 3, 1) := dk_29 (dk_at dksX8_isWord_1 20 rfl rfl)
theorem dX8_isWord_45 : decode cX8_isWord 45 = .ok (.iadd, 1) := dk_96 (dk_at dksX8_isWord_1 21 rfl rfl)
theorem dX8_isWord_46 : decode cX8_isWord 46 = .ok (.baload, 1) := dk_51 (dk_at dksX8_isWord_1 22 rfl rfl)
theorem dX8_isWord_47 : decode cX8_isWord 47 = .ok (.aload_n 1, 1) := dk_43 (dk_at dksX8_isWord_1 23 rfl rfl)
theorem dX8_isWord_48 : decode cX8_isWord 48 = .ok (.iload_n 3, 1) := dk_29 (dk_at dksX8_isWord_2 0 rfl rfl)
theorem dX8_isWord_49 : decode cX8_isWord 49 = .ok (.invokevirtual 117, 3) := dk_182 0 117 (dk_at dksX8_isWord_2 1 rfl rfl)
theorem dX8_isWord_52 : decode cX8_isWord 52 = .ok (.if_icmp .ne 7, 3) := dk_160 0 7 (dk_at dksX8_isWord_2 4 rfl rfl)
theorem dX8_isWord_55 : decode cX8_isWord 55 = .ok (.iconst 1, 1) := dk_4 (dk_at dksX8_isWord_2 7 rfl rfl)
theorem dX8_isWord_56 : decode cX8_isWord 56 = .ok (.goto 4, 3) := dk_167 0 4 (dk_at dksX8_isWord_2 8 rfl rfl)
theorem dX8_isWord_59 : decode cX8_isWord 59 = .ok (.iconst 0, 1) := dk_3 (dk_at dksX8_isWord_2 11 rfl rfl)
theorem dX8_isWord_60 : decode cX8_isWord 60 = .ok (.istore_n 2, 1) := dk_61 (dk_at dksX8_isWord_2 12 rfl rfl)
theorem dX8_isWord_61 : decode cX8_isWord 61 = .ok (.iinc 3 1, 3) := dk_132 3 1 (dk_at dksX8_isWord_2 13 rfl rfl)
theorem dX8_isWord_64 : decode cX8_isWord 64 = .ok (.goto (-40), 3) := dk_167 255 216 (dk_at dksX8_isWord_2 16 rfl rfl)
theorem dX8_isWord_67 : decode cX8_isWord 67 = .ok (.iload_n 2, 1) := dk_28 (dk_at dksX8_isWord_2 19 rfl rfl)
theorem dX8_isWord_68 : decode cX8_isWord 68 = .ok (.ireturn, 1) := dk_172 (dk_at dksX8_isWord_2 20 rfl rfl)
abbrev cX8_readOp : ByteArray := prog_19_method_38_code
def yX8_readOp : MethodName := ⟨RX8, "readOp", "()Z"⟩
def dkwX8_readOp_3 : List UInt8 := [154, 0, 5, 3, 172, 42, 180, 0, 13, 3, 92, 46, 4, 96, 79, 4, 172]
abbrev dktX8_readOp_3 : List UInt8 := dkwX8_readOp_3 ++ []
def dkwX8_readOp_2 : List UInt8 := [184, 0, 74, 42, 18, 160, 182, 0, 162, 153, 0, 7, 4, 167, 0, 4, 3, 79, 42, 27, 182, 0, 165]
abbrev dktX8_readOp_2 : List UInt8 := dkwX8_readOp_2 ++ dktX8_readOp_3
def dkwX8_readOp_1 : List UInt8 := [180, 0, 13, 27, 28, 184, 0, 74, 3, 79, 132, 2, 1, 167, 255, 236, 42, 180, 0, 13, 27, 4]
abbrev dktX8_readOp_1 : List UInt8 := dkwX8_readOp_1 ++ dktX8_readOp_2
def dkwX8_readOp_0 : List UInt8 := [42, 182, 0, 84, 60, 27, 16, 8, 160, 0, 5, 3, 172, 3, 61, 28, 16, 9, 162, 0, 20, 42]
abbrev dktX8_readOp_0 : List UInt8 := dkwX8_readOp_0 ++ dktX8_readOp_1
theorem dksX8_readOp_0 : cX8_readOp.data.toList.drop 0 = dktX8_readOp_0 := by decide +kernel
theorem dksX8_readOp_1 : cX8_readOp.data.toList.drop 22 = dktX8_readOp_1 := dk_seg dksX8_readOp_0 22 rfl rfl
theorem dksX8_readOp_2 : cX8_readOp.data.toList.drop 44 = dktX8_readOp_2 := dk_seg dksX8_readOp_1 22 rfl rfl
theorem dksX8_readOp_3 : cX8_readOp.data.toList.drop 67 = dktX8_readOp_3 := dk_seg dksX8_readOp_2 23 rfl rfl
theorem dX8_readOp_0 : decode cX8_readOp 0 = .ok (.aload_n 0, 1) := dk_42 (dk_at dksX8_readOp_0 0 rfl rfl)
theorem dX8_readOp_1 : decode cX8_readOp 1 = .ok (.invokevirtual 84, 3) := dk_182 0 84 (dk_at dksX8_readOp_0 1 rfl rfl)
theorem dX8_readOp_4 : decode cX8_readOp 4 = .ok (.istore_n 1, 1) := dk_60 (dk_at dksX8_readOp_0 4 rfl rfl)
theorem dX8_readOp_5 : decode cX8_readOp 5 = .ok (.iload_n 1, 1) := dk_27 (dk_at dksX8_readOp_0 5 rfl rfl)
theorem dX8_readOp_6 : decode cX8_readOp 6 = .ok (.bipush 8, 2) := dk_16 8 (dk_at dksX8_readOp_0 6 rfl rfl)
theorem dX8_readOp_8 : decode cX8_readOp 8 = .ok (.if_icmp .ne 5, 3) := dk_160 0 5 (dk_at dksX8_readOp_0 8 rfl rfl)
theorem dX8_readOp_11 : decode cX8_readOp 11 = .ok (.iconst 0, 1) := dk_3 (dk_at dksX8_readOp_0 11 rfl rfl)
theorem dX8_readOp_12 : decode cX8_readOp 12 = .ok (.ireturn, 1) := dk_172 (dk_at dksX8_readOp_0 12 rfl rfl)
theorem dX8_readOp_13 : decode cX8_readOp 13 = .ok (.iconst 0, 1) := dk_3 (dk_at dksX8_readOp_0 13 rfl rfl)
theorem dX8_readOp_14 : decode cX8_readOp 14 = .ok (.istore_n 2, 1) := dk_61 (dk_at dksX8_readOp_0 14 rfl rfl)
theorem dX8_readOp_15 : decode cX8_readOp 15 = .ok (.iload_n 2, 1) := dk_28 (dk_at dksX8_readOp_0 15 rfl rfl)
theorem dX8_readOp_16 : decode cX8_readOp 16 = .ok (.bipush 9, 2) := dk_16 9 (dk_at dksX8_readOp_0 16 rfl rfl)
theorem dX8_readOp_18 : decode cX8_readOp 18 = .ok (.if_icmp .ge 20, 3) := dk_162 0 20 (dk_at dksX8_readOp_0 18 rfl rfl)
theorem dX8_readOp_21 : decode cX8_readOp 21 = .ok (.aload_n 0, 1) := dk_42 (dk_at dksX8_readOp_0 21 rfl rfl)
theorem dX8_readOp_22 : decode cX8_readOp 22 = .ok (.getfield 13, 3) := dk_180 0 13 (dk_at dksX8_readOp_1 0 rfl rfl)
theorem dX8_readOp_25 : decode cX8_readOp 25 = .ok (.iload_n 1, 1) := dk_27 (dk_at dksX8_readOp_1 3 rfl rfl)
theorem dX8_readOp_26 : decode cX8_readOp 26 = .ok (.iload_n 2, 1) := dk_28 (dk_at dksX8_readOp_1 4 rfl rfl)
theorem dX8_readOp_27 : decode cX8_readOp 27 = .ok (.invokestatic 74, 3) := dk_184 0 74 (dk_at dksX8_readOp_1 5 rfl rfl)
theorem dX8_readOp_30 : decode cX8_readOp 30 = .ok (.iconst 0, 1) := dk_3 (dk_at dksX8_readOp_1 8 rfl rfl)
theorem dX8_readOp_31 : decode cX8_readOp 31 = .ok (.iastore, 1) := dk_79 (dk_at dksX8_readOp_1 9 rfl rfl)
theorem dX8_readOp_32 : decode cX8_readOp 32 = .ok (.iinc 2 1, 3) := dk_132 2 1 (dk_at dksX8_readOp_1 10 rfl rfl)
theorem dX8_readOp_35 : decode cX8_readOp 35 = .ok (.goto (-20), 3) := dk_167 255 236 (dk_at dksX8_readOp_1 13 rfl rfl)
theorem dX8_readOp_38 : decode cX8_readOp 38 = .ok (.aload_n 0, 1) := dk_42 (dk_at dksX8_readOp_1 16 rfl rfl)
theorem dX8_readOp_39 : decode cX8_readOp 39 = .ok (.getfield 13, 3) := dk_180 0 13 (dk_at dksX8_readOp_1 17 rfl rfl)
theorem dX8_readOp_42 : decode cX8_readOp 42 = .ok (.iload_n 1, 1) := dk_27 (dk_at dksX8_readOp_1 20 rfl rfl)
theorem dX8_readOp_43 : decode cX8_readOp 43 = .ok (.iconst 1, 1) := dk_4 (dk_at dksX8_readOp_1 21 rfl rfl)
theorem dX8_readOp_44 : decode cX8_readOp 44 = .ok (.invokestatic 74, 3) := dk_184 0 74 (dk_at dksX8_readOp_2 0 rfl rfl)
theorem dX8_readOp_47 : decode cX8_readOp 47 = .ok (.aload_n 0, 1) := dk_42 (dk_at dksX8_readOp_2 3 rfl rfl)
theorem dX8_readOp_48 : decode cX8_readOp 48 = .ok (.ldc 160, 2) := dk_18 160 (dk_at dksX8_readOp_2 4 rfl rfl)
theorem dX8_readOp_50 : decode cX8_readOp 50 = .ok (.invokevirtual 162, 3) := dk_182 0 162 (dk_at dksX8_readOp_2 6 rfl rfl)
theorem dX8_readOp_53 : decode cX8_readOp 53 = .ok (.ifCond .eq 7, 3) := dk_153 0 7 (dk_at dksX8_readOp_2 9 rfl rfl)
theorem dX8_readOp_56 : decode cX8_readOp 56 = .ok (.iconst 1, 1) := dk_4 (dk_at dksX8_readOp_2 12 rfl rfl)
theorem dX8_readOp_57 : decode cX8_readOp 57 = .ok (.goto 4, 3) := dk_167 0 4 (dk_at dksX8_readOp_2 13 rfl rfl)
theorem dX8_readOp_60 : decode cX8_readOp 60 = .ok (.iconst 0, 1) := dk_3 (dk_at dksX8_readOp_2 16 rfl rfl)
theorem dX8_readOp_61 : decode cX8_readOp 61 = .ok (.iastore, 1) := dk_79 (dk_at dksX8_readOp_2 17 rfl rfl)
theorem dX8_readOp_62 : decode cX8_readOp 62 = .ok (.aload_n 0, 1) := dk_42 (dk_at dksX8_readOp_2 18 rfl rfl)
theorem dX8_readOp_63 : decode cX8_readOp 63 = .ok (.iload_n 1, 1) := dk_27 (dk_at dksX8_readOp_2 19 rfl rfl)
theorem dX8_readOp_64 : decode cX8_readOp 64 = .ok (.invokevirtual 165, 3) := dk_182 0 165 (dk_at dksX8_readOp_2 20 rfl rfl)
theorem dX8_readOp_67 : decode cX8_readOp 67 = .ok (.ifCond .ne 5, 3) := dk_154 0 5 (dk_at dksX8_readOp_3 0 rfl rfl)
theorem dX8_readOp_70 : decode cX8_readOp 70 = .ok (.iconst 0, 1) := dk_3 (dk_at dksX8_readOp_3 3 rfl rfl)
theorem dX8_readOp_71 : decode cX8_readOp 71 = .ok (.ireturn, 1) := dk_172 (dk_at dksX8_readOp_3 4 rfl rfl)
theorem dX8_readOp_72 : decode cX8_readOp 72 = .ok (.aload_n 0, 1) := dk_42 (dk_at dksX8_readOp_3 5 rfl rfl)
theorem dX8_readOp_73 : decode cX8_readOp 73 = .ok (.getfield 13, 3) := dk_180 0 13 (dk_at dksX8_readOp_3 6 rfl rfl)
theorem dX8_readOp_76 : decode cX8_readOp 76 = .ok (.iconst 0, 1) := dk_3 (dk_at dksX8_readOp_3 9 rfl rfl)
theorem dX8_readOp_77 : decode cX8_readOp 77 = .ok (.dup2, 1) := dk_92 (dk_at dksX8_readOp_3 10 rfl rfl)
theorem dX8_readOp_78 : decode cX8_readOp 78 = .ok (.iaload, 1) := dk_46 (dk_at dksX8_readOp_3 11 rfl rfl)
theorem dX8_readOp_79 : decode cX8_readOp 79 = .ok (.iconst 1, 1) := dk_4 (dk_at dksX8_readOp_3 12 rfl rfl)
theorem dX8_readOp_80 : decode cX8_readOp 80 = .ok (.iadd, 1) := dk_96 (dk_at dksX8_readOp_3 13 rfl rfl)
theorem dX8_readOp_81 : decode cX8_readOp 81 = .ok (.iastore, 1) := dk_79 (dk_at dksX8_readOp_3 14 rfl rfl)
theorem dX8_readOp_82 : decode cX8_readOp 82 = .ok (.iconst 1, 1) := dk_4 (dk_at dksX8_readOp_3 15 rfl rfl)
theorem dX8_readOp_83 : decode cX8_readOp 83 = .ok (.ireturn, 1) := dk_172 (dk_at dksX8_readOp_3 16 rfl rfl)
abbrev cX8_ops : ByteArray := prog_19_method_12_code
def yX8_ops : MethodName := ⟨RX8, "ops", "()I"⟩
def dkwX8_ops_0 : List UInt8 := [42, 180, 0, 13, 3, 46, 172]
abbrev dktX8_ops_0 : List UInt8 := dkwX8_ops_0 ++ []
theorem dksX8_ops_0 : cX8_ops.data.toList.drop 0 = dktX8_ops_0 := by decide +kernel
theorem dX8_ops_0 : decode cX8_ops 0 = .ok (.aload_n 0, 1) := dk_42 (dk_at dksX8_ops_0 0 rfl rfl)
theorem dX8_ops_1 : decode cX8_ops 1 = .ok (.getfield 13, 3) := dk_180 0 13 (dk_at dksX8_ops_0 1 rfl rfl)
theorem dX8_ops_4 : decode cX8_ops 4 = .ok (.iconst 0, 1) := dk_3 (dk_at dksX8_ops_0 4 rfl rfl)
theorem dX8_ops_5 : decode cX8_ops 5 = .ok (.iaload, 1) := dk_46 (dk_at dksX8_ops_0 5 rfl rfl)
theorem dX8_ops_6 : decode cX8_ops 6 = .ok (.ireturn, 1) := dk_172 (dk_at dksX8_ops_0 6 rfl rfl)
abbrev cX8_opAt : ByteArray := prog_19_method_13_code
def yX8_opAt : MethodName := ⟨RX8, "opAt", "(II)I"⟩
def dkwX8_opAt_0 : List UInt8 := [16, 30, 16, 9, 26, 104, 96, 27, 96, 172]
abbrev dktX8_opAt_0 : List UInt8 := dkwX8_opAt_0 ++ []
theorem dksX8_opAt_0 : cX8_opAt.data.toList.drop 0 = dktX8_opAt_0 := by decide +kernel
theorem dX8_opAt_0 : decode cX8_opAt 0 = .ok (.bipush 30, 2) := dk_16 30 (dk_at dksX8_opAt_0 0 rfl rfl)
theorem dX8_opAt_2 : decode cX8_opAt 2 = .ok (.bipush 9, 2) := dk_16 9 (dk_at dksX8_opAt_0 2 rfl rfl)
theorem dX8_opAt_4 : decode cX8_opAt 4 = .ok (.iload_n 0, 1) := dk_26 (dk_at dksX8_opAt_0 4 rfl rfl)
theorem dX8_opAt_5 : decode cX8_opAt 5 = .ok (.imul, 1) := dk_104 (dk_at dksX8_opAt_0 5 rfl rfl)
theorem dX8_opAt_6 : decode cX8_opAt 6 = .ok (.iadd, 1) := dk_96 (dk_at dksX8_opAt_0 6 rfl rfl)
theorem dX8_opAt_7 : decode cX8_opAt 7 = .ok (.iload_n 1, 1) := dk_27 (dk_at dksX8_opAt_0 7 rfl rfl)
theorem dX8_opAt_8 : decode cX8_opAt 8 = .ok (.iadd, 1) := dk_96 (dk_at dksX8_opAt_0 8 rfl rfl)
theorem dX8_opAt_9 : decode cX8_opAt 9 = .ok (.ireturn, 1) := dk_172 (dk_at dksX8_opAt_0 9 rfl rfl)
abbrev cX8_passes : ByteArray := prog_19_method_28_code
def yX8_passes : MethodName := ⟨RX8, "passes", "(Ljava/lang/String;)Z"⟩
def dkwX8_passes_0 : List UInt8 := [42, 182, 0, 121, 42, 43, 182, 0, 124, 153, 0, 5, 4, 172, 42, 42, 180, 0, 106, 181, 0, 96, 3, 172]
abbrev dktX8_passes_0 : List UInt8 := dkwX8_passes_0 ++ []
theorem dksX8_passes_0 : cX8_passes.data.toList.drop 0 = dktX8_passes_0 := by decide +kernel
theorem dX8_passes_0 : decode cX8_passes 0 = .ok (.aload_n 0, 1) := dk_42 (dk_at dksX8_passes_0 0 rfl rfl)
theorem dX8_passes_1 : decode cX8_passes 1 = .ok (.invokevirtual 121, 3) := dk_182 0 121 (dk_at dksX8_passes_0 1 rfl rfl)
theorem dX8_passes_4 : decode cX8_passes 4 = .ok (.aload_n 0, 1) := dk_42 (dk_at dksX8_passes_0 4 rfl rfl)
theorem dX8_passes_5 : decode cX8_passes 5 = .ok (.aload_n 1, 1) := dk_43 (dk_at dksX8_passes_0 5 rfl rfl)
theorem dX8_passes_6 : decode cX8_passes 6 = .ok (.invokevirtual 124, 3) := dk_182 0 124 (dk_at dksX8_passes_0 6 rfl rfl)
theorem dX8_passes_9 : decode cX8_passes 9 = .ok (.ifCond .eq 5, 3) := dk_153 0 5 (dk_at dksX8_passes_0 9 rfl rfl)
theorem dX8_passes_12 : decode cX8_passes 12 = .ok (.iconst 1, 1) := dk_4 (dk_at dksX8_passes_0 12 rfl rfl)
theorem dX8_passes_13 : decode cX8_passes 13 = .ok (.ireturn, 1) := dk_172 (dk_at dksX8_passes_0 13 rfl rfl)
theorem dX8_passes_14 : decode cX8_passes 14 = .ok (.aload_n 0, 1) := dk_42 (dk_at dksX8_passes_0 14 rfl rfl)
theorem dX8_passes_15 : decode cX8_passes 15 = .ok (.aload_n 0, 1) := dk_42 (dk_at dksX8_passes_0 15 rfl rfl)
theorem dX8_passes_16 : decode cX8_passes 16 = .ok (.getfield 106, 3) := dk_180 0 106 (dk_at dksX8_passes_0 16 rfl rfl)
theorem dX8_passes_19 : decode cX8_passes 19 = .ok (.putfield 96, 3) := dk_181 0 96 (dk_at dksX8_passes_0 19 rfl rfl)
theorem dX8_passes_22 : decode cX8_passes 22 = .ok (.iconst 0, 1) := dk_3 (dk_at dksX8_passes_0 22 rfl rfl)
theorem dX8_passes_23 : decode cX8_passes 23 = .ok (.ireturn, 1) := dk_172 (dk_at dksX8_passes_0 23 rfl rfl)
abbrev cX8_readMicros : ByteArray := prog_19_method_37_code
def yX8_readMicros : MethodName := ⟨RX8, "readMicros", "(I)Z"⟩
def dkwX8_readMicros_5 : List UInt8 := [167, 255, 155, 42, 42, 180, 0, 106, 181, 0, 96, 4, 172]
abbrev dktX8_readMicros_5 : List UInt8 := dkwX8_readMicros_5 ++ []
def dkwX8_readMicros_4 : List UInt8 := [79, 42, 180, 0, 13, 27, 3, 184, 0, 74, 92, 46, 4, 96, 79, 42, 182, 0, 121, 42, 182, 0, 153, 61]
abbrev dktX8_readMicros_4 : List UInt8 := dkwX8_readMicros_4 ++ dktX8_readMicros_5
def dkwX8_readMicros_3 : List UInt8 := [104, 96, 184, 0, 74, 28, 79, 42, 180, 0, 13, 27, 6, 5, 29, 104, 96, 4, 96, 184, 0, 74, 21, 4]
abbrev dktX8_readMicros_3 : List UInt8 := dkwX8_readMicros_3 ++ dktX8_readMicros_4
def dkwX8_readMicros_2 : List UInt8 := [182, 0, 128, 167, 0, 4, 3, 54, 4, 21, 4, 156, 0, 5, 3, 172, 42, 180, 0, 13, 27, 6, 5, 29]
abbrev dktX8_readMicros_2 : List UInt8 := dkwX8_readMicros_2 ++ dktX8_readMicros_3
def dkwX8_readMicros_1 : List UInt8 := [182, 0, 78, 62, 29, 6, 160, 0, 5, 3, 172, 28, 184, 0, 156, 153, 0, 13, 42, 3, 16, 7]
abbrev dktX8_readMicros_1 : List UInt8 := dkwX8_readMicros_1 ++ dktX8_readMicros_2
def dkwX8_readMicros_0 : List UInt8 := [42, 182, 0, 121, 42, 182, 0, 153, 61, 28, 156, 0, 5, 3, 172, 28, 155, 0, 103, 42, 27, 3]
abbrev dktX8_readMicros_0 : List UInt8 := dkwX8_readMicros_0 ++ dktX8_readMicros_1
theorem dksX8_readMicros_0 : cX8_readMicros.data.toList.drop 0 = dktX8_readMicros_0 := by decide +kernel
theorem dksX8_readMicros_1 : cX8_readMicros.data.toList.drop 22 = dktX8_readMicros_1 := dk_seg dksX8_readMicros_0 22 rfl rfl
theorem dksX8_readMicros_2 : cX8_readMicros.data.toList.drop 44 = dktX8_readMicros_2 := dk_seg dksX8_readMicros_1 22 rfl rfl
theorem dksX8_readMicros_3 : cX8_readMicros.data.toList.drop 68 = dktX8_readMicros_3 := dk_seg dksX8_readMicros_2 24 rfl rfl
theorem dksX8_readMicros_4 : cX8_readMicros.data.toList.drop 92 = dktX8_readMicros_4 := dk_seg dksX8_readMicros_3 24 rfl rfl
theorem dksX8_readMicros_5 : cX8_readMicros.data.toList.drop 116 = dktX8_readMicros_5 := dk_seg dksX8_readMicros_4 24 rfl rfl
theorem dX8_readMicros_0 : decode cX8_readMicros 0 = .ok (.aload_n 0, 1) := dk_42 (dk_at dksX8_readMicros_0 0 rfl rfl)
theorem dX8_readMicros_1 : decode cX8_readMicros 1 = .ok (.invokevirtual 121, 3) := dk_182 0 121 (dk_at dksX8_readMicros_0 1 rfl rfl)
theorem dX8_readMicros_4 : decode cX8_readMicros 4 = .ok (.aload_n 0, 1) := dk_42 (dk_at dksX8_readMicros_0 4 rfl rfl)
theorem dX8_readMicros_5 : decode cX8_readMicros 5 = .ok (.invokevirtual 153, 3) := dk_182 0 153 (dk_at dksX8_readMicros_0 5 rfl rfl)
theorem dX8_readMicros_8 : decode cX8_readMicros 8 = .ok (.istore_n 2, 1) := dk_61 (dk_at dksX8_readMicros_0 8 rfl rfl)
theorem dX8_readMicros_9 : decode cX8_readMicros 9 = .ok (.iload_n 2, 1) := dk_28 (dk_at dksX8_readMicros_0 9 rfl rfl)
theorem dX8_readMicros_10 : decode cX8_readMicros 10 = .ok (.ifCond .ge 5, 3) := dk_156 0 5 (dk_at dksX8_readMicros_0 10 rfl rfl)
theorem dX8_readMicros_13 : decode cX8_readMicros 13 = .ok (.iconst 0, 1) := dk_3 (dk_at dksX8_readMicros_0 13 rfl rfl)
theorem dX8_readMicros_14 : decode cX8_readMicros 14 = .ok (.ireturn, 1) := dk_172 (dk_at dksX8_readMicros_0 14 rfl rfl)
theorem dX8_readMicros_15 : decode cX8_readMicros 15 = .ok (.iload_n 2, 1) := dk_28 (dk_at dksX8_readMicros_0 15 rfl rfl)
theorem dX8_readMicros_16 : decode cX8_readMicros 16 = .ok (.ifCond .lt 103, 3) := dk_155 0 103 (dk_at dksX8_readMicros_0 16 rfl rfl)
theorem dX8_readMicros_19 : decode cX8_readMicros 19 = .ok (.aload_n 0, 1) := dk_42 (dk_at dksX8_readMicros_0 19 rfl rfl)
theorem dX8_readMicros_20 : decode cX8_readMicros 20 = .ok (.iload_n 1, 1) := dk_27 (dk_at dksX8_readMicros_0 20 rfl rfl)
theorem dX8_readMicros_21 : decode cX8_readMicros 21 = .ok (.iconst 0, 1) := dk_3 (dk_at dksX8_readMicros_0 21 rfl rfl)
theorem dX8_readMicros_22 : decode cX8_readMicros 22 = .ok (.invokevirtual 78, 3) := dk_182 0 78 (dk_at dksX8_readMicros_1 0 rfl rfl)
theorem dX8_readMicros_25 : decode cX8_readMicros 25 = .ok (.istore_n 3, 1) := dk_62 (dk_at dksX8_readMicros_1 3 rfl rfl)
theorem dX8_readMicros_26 : decode cX8_readMicros 26 = .ok (.iload_n 3, 1) := dk_29 (dk_at dksX8_readMicros_1 4 rfl rfl)
theorem dX8_readMicros_27 : decode cX8_readMicros 27 = .ok (.iconst 3, 1) := dk_6 (dk_at dksX8_readMicros_1 5 rfl rfl)
theorem dX8_readMicros_28 : decode cX8_readMicros 28 = .ok (.if_icmp .ne 5, 3) := dk_160 0 5 (dk_at dksX8_readMicros_1 6 rfl rfl)
theorem dX8_readMicros_31 : decode cX8_readMicros 31 = .ok (.iconst 0, 1) := dk_3 (dk_at dksX8_readMicros_1 9 rfl rfl)
theorem dX8_readMicros_32 : decode cX8_readMicros 32 = .ok (.ireturn, 1) := dk_172 (dk_at dksX8_readMicros_1 10 rfl rfl)
theorem dX8_readMicros_33 : decode cX8_readMicros 33 = .ok (.iload_n 2, 1) := dk_28 (dk_at dksX8_readMicros_1 11 rfl rfl)
theorem dX8_readMicros_34 : decode cX8_readMicros 34 = .ok (.invokestatic 156, 3) := dk_184 0 156 (dk_at dksX8_readMicros_1 12 rfl rfl)
theorem dX8_readMicros_37 : decode cX8_readMicros 37 = .ok (.ifCond .eq 13, 3) := dk_153 0 13 (dk_at dksX8_readMicros_1 15 rfl rfl)
theorem dX8_readMicros_40 : decode cX8_readMicros 40 = .ok (.aload_n 0, 1) := dk_42 (dk_at dksX8_readMicros_1 18 rfl rfl)
theorem dX8_readMicros_41 : decode cX8_readMicros 41 = .ok (.iconst 0, 1) := dk_3 (dk_at dksX8_readMicros_1 19 rfl rfl)
theorem dX8_readMicros_42 : decode cX8_readMicros 42 = .ok (.bipush 7, 2) := dk_16 7 (dk_at dksX8_readMicros_1 20 rfl rfl)
theorem dX8_readMicros_44 : decode cX8_readMicros 44 = .ok (.invokevirtual 128, 3) := dk_182 0 128 (dk_at dksX8_readMicros_2 0 rfl rfl)
theorem dX8_readMicros_47 : decode cX8_readMicros 47 = .ok (.goto 4, 3) := dk_167 0 4 (dk_at dksX8_readMicros_2 3 rfl rfl)
theorem dX8_readMicros_50 : decode cX8_readMicros 50 = .ok (.iconst 0, 1) := dk_3 (dk_at dksX8_readMicros_2 6 rfl rfl)
theorem dX8_readMicros_51 : decode cX8_readMicros 51 = .ok (.istore 4, 2) := dk_54 4 (dk_at dksX8_readMicros_2 7 rfl rfl)
theorem dX8_readMicros_53 : decode cX8_readMicros 53 = .ok (.iload 4, 2) := dk_21 4 (dk_at dksX8_readMicros_2 9 rfl rfl)
theorem dX8_readMicros_55 : decode cX8_readMicros 55 = .ok (.ifCond .ge 5, 3) := dk_156 0 5 (dk_at dksX8_readMicros_2 11 rfl rfl)
theorem dX8_readMicros_58 : decode cX8_readMicros 58 = .ok (.iconst 0, 1) := dk_3 (dk_at dksX8_readMicros_2 14 rfl rfl)
theorem dX8_readMicros_59 : decode cX8_readMicros 59 = .ok (.ireturn, 1) := dk_172 (dk_at dksX8_readMicros_2 15 rfl rfl)
theorem dX8_readMicros_60 : decode cX8_readMicros 60 = .ok (.aload_n 0, 1) := dk_42 (dk_at dksX8_readMicros_2 16 rfl rfl)
theorem dX8_readMicros_61 : decode cX8_readMicros 61 = .ok (.getfield 13, 3) := dk_180 0 13 (dk_at dksX8_readMicros_2 17 rfl rfl)
theorem dX8_readMicros_64 : decode cX8_readMicros 64 = .ok (.iload_n 1, 1) := dk_27 (dk_at dksX8_readMicros_2 20 rfl rfl)
theorem dX8_readMicros_65 : decode cX8_readMicros 65 = .ok (.iconst 3, 1) := dk_6 (dk_at dksX8_readMicros_2 21 rfl rfl)
theorem dX8_readMicros_66 : decode cX8_readMicros 66 = .ok (.iconst 2, 1) := dk_5 (dk_at dksX8_readMicros_2 22 rfl rfl)
theorem dX8_readMicros_67 : decode cX8_readMicros 67 = .ok (.iload_n 3, 1) := dk_29 (dk_at dksX8_readMicros_2 23 rfl rfl)
theorem dX8_readMicros_68 : decode cX8_readMicros 68 = .ok (.imul, 1) := dk_104 (dk_at dksX8_readMicros_3 0 rfl rfl)
theorem dX8_readMicros_69 : decode cX8_readMicros 69 = .ok (.iadd, 1) := dk_96 (dk_at dksX8_readMicros_3 1 rfl rfl)
theorem dX8_readMicros_70 : decode cX8_readMicros 70 = .ok (.invokestatic 74, 3) := dk_184 0 74 (dk_at dksX8_readMicros_3 2 rfl rfl)
theorem dX8_readMicros_73 : decode cX8_readMicros 73 = .ok (.iload_n 2, 1) := dk_28 (dk_at dksX8_readMicros_3 5 rfl rfl)
theorem dX8_readMicros_74 : decode cX8_readMicros 74 = .ok (.iastore, 1) := dk_79 (dk_at dksX8_readMicros_3 6 rfl rfl)
theorem dX8_readMicros_75 : decode cX8_readMicros 75 = .ok (.aload_n 0, 1) := dk_42 (dk_at dksX8_readMicros_3 7 rfl rfl)
theorem dX8_readMicros_76 : decode cX8_readMicros 76 = .ok (.getfield 13, 3) := dk_180 0 13 (dk_at dksX8_readMicros_3 8 rfl rfl)
theorem dX8_readMicros_79 : decode cX8_readMicros 79 = .ok (.iload_n 1, 1) := dk_27 (dk_at dksX8_readMicros_3 11 rfl rfl)
theorem dX8_readMicros_80 : decode cX8_readMicros 80 = .ok (.iconst 3, 1) := dk_6 (dk_at dksX8_readMicros_3 12 rfl rfl)
theorem dX8_readMicros_81 : decode cX8_readMicros 81 = .ok (.iconst 2, 1) := dk_5 (dk_at dksX8_readMicros_3 13 rfl rfl)
theorem dX8_readMicros_82 : decode cX8_readMicros 82 = .ok (.iload_n 3, 1) := dk_29 (dk_at dksX8_readMicros_3 14 rfl rfl)
theorem dX8_readMicros_83 : decode cX8_readMicros 83 = .ok (.imul, 1) := dk_104 (dk_at dksX8_readMicros_3 15 rfl rfl)
theorem dX8_readMicros_84 : decode cX8_readMicros 84 = .ok (.iadd, 1) := dk_96 (dk_at dksX8_readMicros_3 16 rfl rfl)
theorem dX8_readMicros_85 : decode cX8_readMicros 85 = .ok (.iconst 1, 1) := dk_4 (dk_at dksX8_readMicros_3 17 rfl rfl)
theorem dX8_readMicros_86 : decode cX8_readMicros 86 = .ok (.iadd, 1) := dk_96 (dk_at dksX8_readMicros_3 18 rfl rfl)
theorem dX8_readMicros_87 : decode cX8_readMicros 87 = .ok (.invokestatic 74, 3) := dk_184 0 74 (dk_at dksX8_readMicros_3 19 rfl rfl)
theorem dX8_readMicros_90 : decode cX8_readMicros 90 = .ok (.iload 4, 2) := dk_21 4 (dk_at dksX8_readMicros_3 22 rfl rfl)
theorem dX8_readMicros_92 : decode cX8_readMicros 92 = .ok (.iastore, 1) := dk_79 (dk_at dksX8_readMicros_4 0 rfl rfl)
theorem dX8_readMicros_93 : decode cX8_readMicros 93 = .ok (.aload_n 0, 1) := dk_42 (dk_at dksX8_readMicros_4 1 rfl rfl)
theorem dX8_readMicros_94 : decode cX8_readMicros 94 = .ok (.getfield 13, 3) := dk_180 0 13 (dk_at dksX8_readMicros_4 2 rfl rfl)
theorem dX8_readMicros_97 : decode cX8_readMicros 97 = .ok (.iload_n 1, 1) := dk_27 (dk_at dksX8_readMicros_4 5 rfl rfl)
theorem dX8_readMicros_98 : decode cX8_readMicros 98 = .ok (.iconst 0, 1) := dk_3 (dk_at dksX8_readMicros_4 6 rfl rfl)
theorem dX8_readMicros_99 : decode cX8_readMicros 99 = .ok (.invokestatic 74, 3) := dk_184 0 74 (dk_at dksX8_readMicros_4 7 rfl rfl)
theorem dX8_readMicros_102 : decode cX8_readMicros 102 = .ok (.dup2, 1) := dk_92 (dk_at dksX8_readMicros_4 10 rfl rfl)
theorem dX8_readMicros_103 : decode cX8_readMicros 103 = .ok (.iaload, 1) := dk_46 (dk_at dksX8_readMicros_4 11 rfl rfl)
theorem dX8_readMicros_104 : decode cX8_readMicros 104 = .ok (.iconst 1, 1) := dk_4 (dk_at dksX8_readMicros_4 12 rfl rfl)
theorem dX8_readMicros_105 : decode cX8_readMicros 105 = .ok (.iadd, 1) := dk_96 (dk_at dksX8_readMicros_4 13 rfl rfl)
theorem dX8_readMicros_106 : decode cX8_readMicros 106 = .ok (.iastore, 1) := dk_79 (dk_at dksX8_readMicros_4 14 rfl rfl)
theorem dX8_readMicros_107 : decode cX8_readMicros 107 = .ok (.aload_n 0, 1) := dk_42 (dk_at dksX8_readMicros_4 15 rfl rfl)
theorem dX8_readMicros_108 : decode cX8_readMicros 108 = .ok (.invokevirtual 121, 3) := dk_182 0 121 (dk_at dksX8_readMicros_4 16 rfl rfl)
theorem dX8_readMicros_111 : decode cX8_readMicros 111 = .ok (.aload_n 0, 1) := dk_42 (dk_at dksX8_readMicros_4 19 rfl rfl)
theorem dX8_readMicros_112 : decode cX8_readMicros 112 = .ok (.invokevirtual 153, 3) := dk_182 0 153 (dk_at dksX8_readMicros_4 20 rfl rfl)
theorem dX8_readMicros_115 : decode cX8_readMicros 115 = .ok (.istore_n 2, 1) := dk_61 (dk_at dksX8_readMicros_4 23 rfl rfl)
theorem dX8_readMicros_116 : decode cX8_readMicros 116 = .ok (.goto (-101), 3) := dk_167 255 155 (dk_at dksX8_readMicros_5 0 rfl rfl)
theorem dX8_readMicros_119 : decode cX8_readMicros 119 = .ok (.aload_n 0, 1) := dk_42 (dk_at dksX8_readMicros_5 3 rfl rfl)
theorem dX8_readMicros_120 : decode cX8_readMicros 120 = .ok (.aload_n 0, 1) := dk_42 (dk_at dksX8_readMicros_5 4 rfl rfl)
theorem dX8_readMicros_121 : decode cX8_readMicros 121 = .ok (.getfield 106, 3) := dk_180 0 106 (dk_at dksX8_readMicros_5 5 rfl rfl)
theorem dX8_readMicros_124 : decode cX8_readMicros 124 = .ok (.putfield 96, 3) := dk_181 0 96 (dk_at dksX8_readMicros_5 8 rfl rfl)
theorem dX8_readMicros_127 : decode cX8_readMicros 127 = .ok (.iconst 1, 1) := dk_4 (dk_at dksX8_readMicros_5 11 rfl rfl)
theorem dX8_readMicros_128 : decode cX8_readMicros 128 = .ok (.ireturn, 1) := dk_172 (dk_at dksX8_readMicros_5 12 rfl rfl)
abbrev cX8_kindRead : ByteArray := prog_19_method_35_code
def yX8_kindRead : MethodName := ⟨RX8, "kindRead", "()I"⟩
def dkwX8_kindRead_5 : List UInt8 := [182, 0, 124, 153, 0, 8, 16, 10, 167, 0, 4, 2, 172]
abbrev dktX8_kindRead_5 : List UInt8 := dkwX8_kindRead_5 ++ []
def dkwX8_kindRead_4 : List UInt8 := [182, 0, 124, 153, 0, 6, 16, 8, 172, 42, 18, 149, 182, 0, 124, 153, 0, 6, 16, 9, 172, 42, 18, 151]
abbrev dktX8_kindRead_4 : List UInt8 := dkwX8_kindRead_4 ++ dktX8_kindRead_5
def dkwX8_kindRead_3 : List UInt8 := [182, 0, 124, 153, 0, 6, 16, 6, 172, 42, 18, 145, 182, 0, 124, 153, 0, 6, 16, 7, 172, 42, 18, 147]
abbrev dktX8_kindRead_3 : List UInt8 := dkwX8_kindRead_3 ++ dktX8_kindRead_4
def dkwX8_kindRead_2 : List UInt8 := [182, 0, 124, 153, 0, 5, 7, 172, 42, 18, 141, 182, 0, 124, 153, 0, 5, 8, 172, 42, 18, 143]
abbrev dktX8_kindRead_2 : List UInt8 := dkwX8_kindRead_2 ++ dktX8_kindRead_3
def dkwX8_kindRead_1 : List UInt8 := [18, 135, 182, 0, 124, 153, 0, 5, 5, 172, 42, 18, 137, 182, 0, 124, 153, 0, 5, 6, 172, 42, 18, 139]
abbrev dktX8_kindRead_1 : List UInt8 := dkwX8_kindRead_1 ++ dktX8_kindRead_2
def dkwX8_kindRead_0 : List UInt8 := [42, 18, 131, 182, 0, 124, 153, 0, 5, 3, 172, 42, 18, 133, 182, 0, 124, 153, 0, 5, 4, 172, 42]
abbrev dktX8_kindRead_0 : List UInt8 := dkwX8_kindRead_0 ++ dktX8_kindRead_1
theorem dksX8_kindRead_0 : cX8_kindRead.data.toList.drop 0 = dktX8_kindRead_0 := by decide +kernel
theorem dksX8_kindRead_1 : cX8_kindRead.data.toList.drop 23 = dktX8_kindRead_1 := dk_seg dksX8_kindRead_0 23 rfl rfl
theorem dksX8_kindRead_2 : cX8_kindRead.data.toList.drop 47 = dktX8_kindRead_2 := dk_seg dksX8_kindRead_1 24 rfl rfl
theorem dksX8_kindRead_3 : cX8_kindRead.data.toList.drop 69 = dktX8_kindRead_3 := dk_seg dksX8_kindRead_2 22 rfl rfl
theorem dksX8_kindRead_4 : cX8_kindRead.data.toList.drop 93 = dktX8_kindRead_4 := dk_seg dksX8_kindRead_3 24 rfl rfl
theorem dksX8_kindRead_5 : cX8_kindRead.data.toList.drop 117 = dktX8_kindRead_5 := dk_seg dksX8_kindRead_4 24 rfl rfl
theorem dX8_kindRead_0 : decode cX8_kindRead 0 = .ok (.aload_n 0, 1) := dk_42 (dk_at dksX8_kindRead_0 0 rfl rfl)
theorem dX8_kindRead_1 : decode cX8_kindRead 1 = .ok (.ldc 131, 2) := dk_18 131 (dk_at dksX8_kindRead_0 1 rfl rfl)
theorem dX8_kindRead_3 : decode cX8_kindRead 3 = .ok (.invokevirtual 124, 3) := dk_182 0 124 (dk_at dksX8_kindRead_0 3 rfl rfl)
theorem dX8_kindRead_6 : decode cX8_kindRead 6 = .ok (.ifCond .eq 5, 3) := dk_153 0 5 (dk_at dksX8_kindRead_0 6 rfl rfl)
theorem dX8_kindRead_9 : decode cX8_kindRead 9 = .ok (.iconst 0, 1) := dk_3 (dk_at dksX8_kindRead_0 9 rfl rfl)
theorem dX8_kindRead_10 : decode cX8_kindRead 10 = .ok (.ireturn, 1) := dk_172 (dk_at dksX8_kindRead_0 10 rfl rfl)
theorem dX8_kindRead_11 : decode cX8_kindRead 11 = .ok (.aload_n 0, 1) := dk_42 (dk_at dksX8_kindRead_0 11 rfl rfl)
theorem dX8_kindRead_12 : decode cX8_kindRead 12 = .ok (.ldc 133, 2) := dk_18 133 (dk_at dksX8_kindRead_0 12 rfl rfl)
theorem dX8_kindRead_14 : decode cX8_kindRead 14 = .ok (.invokevirtual 124, 3) := dk_182 0 124 (dk_at dksX8_kindRead_0 14 rfl rfl)
theorem dX8_kindRead_17 : decode cX8_kindRead 17 = .ok (.ifCond .eq 5, 3) := dk_153 0 5 (dk_at dksX8_kindRead_0 17 rfl rfl)
theorem dX8_kindRead_20 : decode cX8_kindRead 20 = .ok (.iconst 1, 1) := dk_4 (dk_at dksX8_kindRead_0 20 rfl rfl)
theorem dX8_kindRead_21 : decode cX8_kindRead 21 = .ok (.ireturn, 1) := dk_172 (dk_at dksX8_kindRead_0 21 rfl rfl)
theorem dX8_kindRead_22 : decode cX8_kindRead 22 = .ok (.aload_n 0, 1) := dk_42 (dk_at dksX8_kindRead_0 22 rfl rfl)
theorem dX8_kindRead_23 : decode cX8_kindRead 23 = .ok (.ldc 135, 2) := dk_18 135 (dk_at dksX8_kindRead_1 0 rfl rfl)
theorem dX8_kindRead_25 : decode cX8_kindRead 25 = .ok (.invokevirtual 124, 3) := dk_182 0 124 (dk_at dksX8_kindRead_1 2 rfl rfl)
theorem dX8_kindRead_28 : decode cX8_kindRead 28 = .ok (.ifCond .eq 5, 3) := dk_153 0 5 (dk_at dksX8_kindRead_1 5 rfl rfl)
theorem dX8_kindRead_31 : decode cX8_kindRead 31 = .ok (.iconst 2, 1) := dk_5 (dk_at dksX8_kindRead_1 8 rfl rfl)
theorem dX8_kindRead_32 : decode cX8_kindRead 32 = .ok (.ireturn, 1) := dk_172 (dk_at dksX8_kindRead_1 9 rfl rfl)
theorem dX8_kindRead_33 : decode cX8_kindRead 33 = .ok (.aload_n 0, 1) := dk_42 (dk_at dksX8_kindRead_1 10 rfl rfl)
theorem dX8_kindRead_34 : decode cX8_kindRead 34 = .ok (.ldc 137, 2) := dk_18 137 (dk_at dksX8_kindRead_1 11 rfl rfl)
theorem dX8_kindRead_36 : decode cX8_kindRead 36 = .ok (.invokevirtual 124, 3) := dk_182 0 124 (dk_at dksX8_kindRead_1 13 rfl rfl)
theorem dX8_kindRead_39 : decode cX8_kindRead 39 = .ok (.ifCond .eq 5, 3) := dk_153 0 5 (dk_at dksX8_kindRead_1 16 rfl rfl)
theorem dX8_kindRead_42 : decode cX8_kindRead 42 = .ok (.iconst 3, 1) := dk_6 (dk_at dksX8_kindRead_1 19 rfl rfl)
theorem dX8_kindRead_43 : decode cX8_kindRead 43 = .ok (.ireturn, 1) := dk_172 (dk_at dksX8_kindRead_1 20 rfl rfl)
theorem dX8_kindRead_44 : decode cX8_kindRead 44 = .ok (.aload_n 0, 1) := dk_42 (dk_at dksX8_kindRead_1 21 rfl rfl)
theorem dX8_kindRead_45 : decode cX8_kindRead 45 = .ok (.ldc 139, 2) := dk_18 139 (dk_at dksX8_kindRead_1 22 rfl rfl)
theorem dX8_kindRead_47 : decode cX8_kindRead 47 = .ok (.invokevirtual 124, 3) := dk_182 0 124 (dk_at dksX8_kindRead_2 0 rfl rfl)
theorem dX8_kindRead_50 : decode cX8_kindRead 50 = .ok (.ifCond .eq 5, 3) := dk_153 0 5 (dk_at dksX8_kindRead_2 3 rfl rfl)
theorem dX8_kindRead_53 : decode cX8_kindRead 53 = .ok (.iconst 4, 1) := dk_7 (dk_at dksX8_kindRead_2 6 rfl rfl)
theorem dX8_kindRead_54 : decode cX8_kindRead 54 = .ok (.ireturn, 1) := dk_172 (dk_at dksX8_kindRead_2 7 rfl rfl)
theorem dX8_kindRead_55 : decode cX8_kindRead 55 = .ok (.aload_n 0, 1) := dk_42 (dk_at dksX8_kindRead_2 8 rfl rfl)
theorem dX8_kindRead_56 : decode cX8_kindRead 56 = .ok (.ldc 141, 2) := dk_18 141 (dk_at dksX8_kindRead_2 9 rfl rfl)
theorem dX8_kindRead_58 : decode cX8_kindRead 58 = .ok (.invokevirtual 124, 3) := dk_182 0 124 (dk_at dksX8_kindRead_2 11 rfl rfl)
theorem dX8_kindRead_61 : decode cX8_kindRead 61 = .ok (.ifCond .eq 5, 3) := dk_153 0 5 (dk_at dksX8_kindRead_2 14 rfl rfl)
theorem dX8_kindRead_64 : decode cX8_kindRead 64 = .ok (.iconst 5, 1) := dk_8 (dk_at dksX8_kindRead_2 17 rfl rfl)
theorem dX8_kindRead_65 : decode cX8_kindRead 65 = .ok (.ireturn, 1) := dk_172 (dk_at dksX8_kindRead_2 18 rfl rfl)
theorem dX8_kindRead_66 : decode cX8_kindRead 66 = .ok (.aload_n 0, 1) := dk_42 (dk_at dksX8_kindRead_2 19 rfl rfl)
theorem dX8_kindRead_67 : decode cX8_kindRead 67 = .ok (.ldc 143, 2) := dk_18 143 (dk_at dksX8_kindRead_2 20 rfl rfl)
theorem dX8_kindRead_69 : decode cX8_kindRead 69 = .ok (.invokevirtual 124, 3) := dk_182 0 124 (dk_at dksX8_kindRead_3 0 rfl rfl)
theorem dX8_kindRead_72 : decode cX8_kindRead 72 = .ok (.ifCond .eq 6, 3) := dk_153 0 6 (dk_at dksX8_kindRead_3 3 rfl rfl)
theorem dX8_kindRead_75 : decode cX8_kindRead 75 = .ok (.bipush 6, 2) := dk_16 6 (dk_at dksX8_kindRead_3 6 rfl rfl)
theorem dX8_kindRead_77 : decode cX8_kindRead 77 = .ok (.ireturn, 1) := dk_172 (dk_at dksX8_kindRead_3 8 rfl rfl)
theorem dX8_kindRead_78 : decode cX8_kindRead 78 = .ok (.aload_n 0, 1) := dk_42 (dk_at dksX8_kindRead_3 9 rfl rfl)
theorem dX8_kindRead_79 : decode cX8_kindRead 79 = .ok (.ldc 145, 2) := dk_18 145 (dk_at dksX8_kindRead_3 10 rfl rfl)
theorem dX8_kindRead_81 : decode cX8_kindRead 81 = .ok (.invokevirtual 124, 3) := dk_182 0 124 (dk_at dksX8_kindRead_3 12 rfl rfl)
theorem dX8_kindRead_84 : decode cX8_kindRead 84 = .ok (.ifCond .eq 6, 3) := dk_153 0 6 (dk_at dksX8_kindRead_3 15 rfl rfl)
theorem dX8_kindRead_87 : decode cX8_kindRead 87 = .ok (.bipush 7, 2) := dk_16 7 (dk_at dksX8_kindRead_3 18 rfl rfl)
theorem dX8_kindRead_89 : decode cX8_kindRead 89 = .ok (.ireturn, 1) := dk_172 (dk_at dksX8_kindRead_3 20 rfl rfl)
theorem dX8_kindRead_90 : decode cX8_kindRead 90 = .ok (.aload_n 0, 1) := dk_42 (dk_at dksX8_kindRead_3 21 rfl rfl)
theorem dX8_kindRead_91 : decode cX8_kindRead 91 = .ok (.ldc 147, 2) := dk_18 147 (dk_at dksX8_kindRead_3 22 rfl rfl)
theorem dX8_kindRead_93 : decode cX8_kindRead 93 = .ok (.invokevirtual 124, 3) := dk_182 0 124 (dk_at dksX8_kindRead_4 0 rfl rfl)
theorem dX8_kindRead_96 : decode cX8_kindRead 96 = .ok (.ifCond .eq 6, 3) := dk_153 0 6 (dk_at dksX8_kindRead_4 3 rfl rfl)
theorem dX8_kindRead_99 : decode cX8_kindRead 99 = .ok (.bipush 8, 2) := dk_16 8 (dk_at dksX8_kindRead_4 6 rfl rfl)
theorem dX8_kindRead_101 : decode cX8_kindRead 101 = .ok (.ireturn, 1) := dk_172 (dk_at dksX8_kindRead_4 8 rfl rfl)
theorem dX8_kindRead_102 : decode cX8_kindRead 102 = .ok (.aload_n 0, 1) := dk_42 (dk_at dksX8_kindRead_4 9 rfl rfl)
theorem dX8_kindRead_103 : decode cX8_kindRead 103 = .ok (.ldc 149, 2) := dk_18 149 (dk_at dksX8_kindRead_4 10 rfl rfl)
theorem dX8_kindRead_105 : decode cX8_kindRead 105 = .ok (.invokevirtual 124, 3) := dk_182 0 124 (dk_at dksX8_kindRead_4 12 rfl rfl)
theorem dX8_kindRead_108 : decode cX8_kindRead 108 = .ok (.ifCond .eq 6, 3) := dk_153 0 6 (dk_at dksX8_kindRead_4 15 rfl rfl)
theorem dX8_kindRead_111 : decode cX8_kindRead 111 = .ok (.bipush 9, 2) := dk_16 9 (dk_at dksX8_kindRead_4 18 rfl rfl)
theorem dX8_kindRead_113 : decode cX8_kindRead 113 = .ok (.ireturn, 1) := dk_172 (dk_at dksX8_kindRead_4 20 rfl rfl)
theorem dX8_kindRead_114 : decode cX8_kindRead 114 = .ok (.aload_n 0, 1) := dk_42 (dk_at dksX8_kindRead_4 21 rfl rfl)
theorem dX8_kindRead_115 : decode cX8_kindRead 115 = .ok (.ldc 151, 2) := dk_18 151 (dk_at dksX8_kindRead_4 22 rfl rfl)
theorem dX8_kindRead_117 : decode cX8_kindRead 117 = .ok (.invokevirtual 124, 3) := dk_182 0 124 (dk_at dksX8_kindRead_5 0 rfl rfl)
theorem dX8_kindRead_120 : decode cX8_kindRead 120 = .ok (.ifCond .eq 8, 3) := dk_153 0 8 (dk_at dksX8_kindRead_5 3 rfl rfl)
theorem dX8_kindRead_123 : decode cX8_kindRead 123 = .ok (.bipush 10, 2) := dk_16 10 (dk_at dksX8_kindRead_5 6 rfl rfl)
theorem dX8_kindRead_125 : decode cX8_kindRead 125 = .ok (.goto 4, 3) := dk_167 0 4 (dk_at dksX8_kindRead_5 8 rfl rfl)
theorem dX8_kindRead_128 : decode cX8_kindRead 128 = .ok (.iconst (-1), 1) := dk_2 (dk_at dksX8_kindRead_5 11 rfl rfl)
theorem dX8_kindRead_129 : decode cX8_kindRead 129 = .ok (.ireturn, 1) := dk_172 (dk_at dksX8_kindRead_5 12 rfl rfl)
abbrev cX8_of : ByteArray := prog_19_method_14_code
def yX8_of : MethodName := ⟨RX8, "of", "(II)I"⟩
def dkwX8_of_0 : List UInt8 := [42, 180, 0, 13, 27, 28, 184, 0, 74, 46, 172]
abbrev dktX8_of_0 : List UInt8 := dkwX8_of_0 ++ []
theorem dksX8_of_0 : cX8_of.data.toList.drop 0 = dktX8_of_0 := by decide +kernel
theorem dX8_of_0 : decode cX8_of 0 = .ok (.aload_n 0, 1) := dk_42 (dk_at dksX8_of_0 0 rfl rfl)
theorem dX8_of_1 : decode cX8_of 1 = .ok (.getfield 13, 3) := dk_180 0 13 (dk_at dksX8_of_0 1 rfl rfl)
theorem dX8_of_4 : decode cX8_of 4 = .ok (.iload_n 1, 1) := dk_27 (dk_at dksX8_of_0 4 rfl rfl)
theorem dX8_of_5 : decode cX8_of 5 = .ok (.iload_n 2, 1) := dk_28 (dk_at dksX8_of_0 5 rfl rfl)
theorem dX8_of_6 : decode cX8_of 6 = .ok (.invokestatic 74, 3) := dk_184 0 74 (dk_at dksX8_of_0 6 rfl rfl)
theorem dX8_of_9 : decode cX8_of 9 = .ok (.iaload, 1) := dk_46 (dk_at dksX8_of_0 9 rfl rfl)
theorem dX8_of_10 : decode cX8_of 10 = .ok (.ireturn, 1) := dk_172 (dk_at dksX8_of_0 10 rfl rfl)
abbrev cX8_hasNumber : ByteArray := prog_19_method_36_code
def yX8_hasNumber : MethodName := ⟨RX8, "hasNumber", "(I)Z"⟩
def dkwX8_hasNumber_0 : List UInt8 := [26, 5, 164, 0, 9, 26, 16, 9, 160, 0, 7, 4, 167, 0, 4, 3, 172]
abbrev dktX8_hasNumber_0 : List UInt8 := dkwX8_hasNumber_0 ++ []
theorem dksX8_hasNumber_0 : cX8_hasNumber.data.toList.drop 0 = dktX8_hasNumber_0 := by decide +kernel
theorem dX8_hasNumber_0 : decode cX8_hasNumber 0 = .ok (.iload_n 0, 1) := dk_26 (dk_at dksX8_hasNumber_0 0 rfl rfl)
theorem dX8_hasNumber_1 : decode cX8_hasNumber 1 = .ok (.iconst 2, 1) := dk_5 (dk_at dksX8_hasNumber_0 1 rfl rfl)
theorem dX8_hasNumber_2 : decode cX8_hasNumber 2 = .ok (.if_icmp .le 9, 3) := dk_164 0 9 (dk_at dksX8_hasNumber_0 2 rfl rfl)
theorem dX8_hasNumber_5 : decode cX8_hasNumber 5 = .ok (.iload_n 0, 1) := dk_26 (dk_at dksX8_hasNumber_0 5 rfl rfl)
theorem dX8_hasNumber_6 : decode cX8_hasNumber 6 = .ok (.bipush 9, 2) := dk_16 9 (dk_at dksX8_hasNumber_0 6 rfl rfl)
theorem dX8_hasNumber_8 : decode cX8_hasNumber 8 = .ok (.if_icmp .ne 7, 3) := dk_160 0 7 (dk_at dksX8_hasNumber_0 8 rfl rfl)
theorem dX8_hasNumber_11 : decode cX8_hasNumber 11 = .ok (.iconst 1, 1) := dk_4 (dk_at dksX8_hasNumber_0 11 rfl rfl)
theorem dX8_hasNumber_12 : decode cX8_hasNumber 12 = .ok (.goto 4, 3) := dk_167 0 4 (dk_at dksX8_hasNumber_0 12 rfl rfl)
theorem dX8_hasNumber_15 : decode cX8_hasNumber 15 = .ok (.iconst 0, 1) := dk_3 (dk_at dksX8_hasNumber_0 15 rfl rfl)
theorem dX8_hasNumber_16 : decode cX8_hasNumber 16 = .ok (.ireturn, 1) := dk_172 (dk_at dksX8_hasNumber_0 16 rfl rfl)
abbrev cX8_number : ByteArray := prog_19_method_30_code
def yX8_number : MethodName := ⟨RX8, "number", "(II)I"⟩
def dkwX8_number_4 : List UInt8 := [29, 28, 164, 0, 7, 2, 167, 0, 4, 29, 172]
abbrev dktX8_number_4 : List UInt8 := dkwX8_number_4 ++ []
def dkwX8_number_3 : List UInt8 := [180, 0, 106, 159, 0, 26, 42, 180, 0, 96, 42, 180, 0, 106, 100, 6, 163, 0, 13, 29, 27, 161, 0, 8]
abbrev dktX8_number_3 : List UInt8 := dkwX8_number_3 ++ dktX8_number_4
def dkwX8_number_2 : List UInt8 := [100, 167, 0, 4, 29, 62, 42, 89, 180, 0, 96, 4, 96, 181, 0, 96, 167, 255, 200, 42, 180, 0, 96, 42]
abbrev dktX8_number_2 : List UInt8 := dkwX8_number_2 ++ dktX8_number_3
def dkwX8_number_1 : List UInt8 := [180, 0, 106, 100, 6, 162, 0, 23, 16, 10, 29, 104, 42, 180, 0, 29, 42, 180, 0, 96, 51, 96, 16, 48]
abbrev dktX8_number_1 : List UInt8 := dkwX8_number_1 ++ dktX8_number_2
def dkwX8_number_0 : List UInt8 := [42, 182, 0, 109, 3, 62, 42, 16, 48, 16, 57, 182, 0, 102, 153, 0, 51, 42, 180, 0, 96, 42]
abbrev dktX8_number_0 : List UInt8 := dkwX8_number_0 ++ dktX8_number_1
theorem dksX8_number_0 : cX8_number.data.toList.drop 0 = dktX8_number_0 := by decide +kernel
theorem dksX8_number_1 : cX8_number.data.toList.drop 22 = dktX8_number_1 := dk_seg dksX8_number_0 22 rfl rfl
theorem dksX8_number_2 : cX8_number.data.toList.drop 46 = dktX8_number_2 := dk_seg dksX8_number_1 24 rfl rfl
theorem dksX8_number_3 : cX8_number.data.toList.drop 70 = dktX8_number_3 := dk_seg dksX8_number_2 24 rfl rfl
theorem dksX8_number_4 : cX8_number.data.toList.drop 94 = dktX8_number_4 := dk_seg dksX8_number_3 24 rfl rfl
theorem dX8_number_0 : decode cX8_number 0 = .ok (.aload_n 0, 1) := dk_42 (dk_at dksX8_number_0 0 rfl rfl)
theorem dX8_number_1 : decode cX8_number 1 = .ok (.invokevirtual 109, 3) := dk_182 0 109 (dk_at dksX8_number_0 1 rfl rfl)
theorem dX8_number_4 : decode cX8_number 4 = .ok (.iconst 0, 1) := dk_3 (dk_at dksX8_number_0 4 rfl rfl)
theorem dX8_number_5 : decode cX8_number 5 = .ok (.istore_n 3, 1) := dk_62 (dk_at dksX8_number_0 5 rfl rfl)
theorem dX8_number_6 : decode cX8_number 6 = .ok (.aload_n 0, 1) := dk_42 (dk_at dksX8_number_0 6 rfl rfl)
theorem dX8_number_7 : decode cX8_number 7 = .ok (.bipush 48, 2) := dk_16 48 (dk_at dksX8_number_0 7 rfl rfl)
theorem dX8_number_9 : decode cX8_number 9 = .ok (.bipush 57, 2) := dk_16 57 (dk_at dksX8_number_0 9 rfl rfl)
theorem dX8_number_11 : decode cX8_number 11 = .ok (.invokevirtual 102, 3) := dk_182 0 102 (dk_at dksX8_number_0 11 rfl rfl)
theorem dX8_number_14 : decode cX8_number 14 = .ok (.ifCond .eq 51, 3) := dk_153 0 51 (dk_at dksX8_number_0 14 rfl rfl)
theorem dX8_number_17 : decode cX8_number 17 = .ok (.aload_n 0, 1) := dk_42 (dk_at dksX8_number_0 17 rfl rfl)
theorem dX8_number_18 : decode cX8_number 18 = .ok (.getfield 96, 3) := dk_180 0 96 (dk_at dksX8_number_0 18 rfl rfl)
theorem dX8_number_21 : decode cX8_number 21 = .ok (.aload_n 0, 1) := dk_42 (dk_at dksX8_number_0 21 rfl rfl)
theorem dX8_number_22 : decode cX8_number 22 = .ok (.getfield 106, 3) := dk_180 0 106 (dk_at dksX8_number_1 0 rfl rfl)
theorem dX8_number_25 : decode cX8_number 25 = .ok (.isub, 1) := dk_100 (dk_at dksX8_number_1 3 rfl rfl)
theorem dX8_number_26 : decode cX8_number 26 = .ok (.iconst 3, 1) := dk_6 (dk_at dksX8_number_1 4 rfl rfl)
theorem dX8_number_27 : decode cX8_number 27 = .ok (.if_icmp .ge 23, 3) := dk_162 0 23 (dk_at dksX8_number_1 5 rfl rfl)
theorem dX8_number_30 : decode cX8_number 30 = .ok (.bipush 10, 2) := dk_16 10 (dk_at dksX8_number_1 8 rfl rfl)
theorem dX8_number_32 : decode cX8_number 32 = .ok (.iload_n 3, 1) := dk_29 (dk_at dksX8_number_1 10 rfl rfl)
theorem dX8_number_33 : decode cX8_number 33 = .ok (.imul, 1) := dk_104 (dk_at dksX8_number_1 11 rfl rfl)
theorem dX8_number_34 : decode cX8_number 34 = .ok (.aload_n 0, 1) := dk_42 (dk_at dksX8_number_1 12 rfl rfl)
theorem dX8_number_35 : decode cX8_number 35 = .ok (.getfield 29, 3) := dk_180 0 29 (dk_at dksX8_number_1 13 rfl rfl)
theorem dX8_number_38 : decode cX8_number 38 = .ok (.aload_n 0, 1) := dk_42 (dk_at dksX8_number_1 16 rfl rfl)
theorem dX8_number_39 : decode cX8_number 39 = .ok (.getfield 96, 3) := dk_180 0 96 (dk_at dksX8_number_1 17 rfl rfl)
theorem dX8_number_42 : decode cX8_number 42 = .ok (.baload, 1) := dk_51 (dk_at dksX8_number_1 20 rfl rfl)
theorem dX8_number_43 : decode cX8_number 43 = .ok (.iadd, 1) := dk_96 (dk_at dksX8_number_1 21 rfl rfl)
theorem dX8_number_44 : decode cX8_number 44 = .ok (.bipush 48, 2) := dk_16 48 (dk_at dksX8_number_1 22 rfl rfl)
theorem dX8_number_46 : decode cX8_number 46 = .ok (.isub, 1) := dk_100 (dk_at dksX8_number_2 0 rfl rfl)
theorem dX8_number_47 : decode cX8_number 47 = .ok (.goto 4, 3) := dk_167 0 4 (dk_at dksX8_number_2 1 rfl rfl)
theorem dX8_number_50 : decode cX8_number 50 = .ok (.iload_n 3, 1) := dk_29 (dk_at dksX8_number_2 4 rfl rfl)
theorem dX8_number_51 : decode cX8_number 51 = .ok (.istore_n 3, 1) := dk_62 (dk_at dksX8_number_2 5 rfl rfl)
theorem dX8_number_52 : decode cX8_number 52 = .ok (.aload_n 0, 1) := dk_42 (dk_at dksX8_number_2 6 rfl rfl)
theorem dX8_number_53 : decode cX8_number 53 = .ok (.dup, 1) := dk_89 (dk_at dksX8_number_2 7 rfl rfl)
theorem dX8_number_54 : decode cX8_number 54 = .ok (.getfield 96, 3) := dk_180 0 96 (dk_at dksX8_number_2 8 rfl rfl)
theorem dX8_number_57 : decode cX8_number 57 = .ok (.iconst 1, 1) := dk_4 (dk_at dksX8_number_2 11 rfl rfl)
theorem dX8_number_58 : decode cX8_number 58 = .ok (.iadd, 1) := dk_96 (dk_at dksX8_number_2 12 rfl rfl)
theorem dX8_number_59 : decode cX8_number 59 = .ok (.putfield 96, 3) := dk_181 0 96 (dk_at dksX8_number_2 13 rfl rfl)
theorem dX8_number_62 : decode cX8_number 62 = .ok (.goto (-56), 3) := dk_167 255 200 (dk_at dksX8_number_2 16 rfl rfl)
theorem dX8_number_65 : decode cX8_number 65 = .ok (.aload_n 0, 1) := dk_42 (dk_at dksX8_number_2 19 rfl rfl)
theorem dX8_number_66 : decode cX8_number 66 = .ok (.getfield 96, 3) := dk_180 0 96 (dk_at dksX8_number_2 20 rfl rfl)
theorem dX8_number_69 : decode cX8_number 69 = .ok (.aload_n 0, 1) := dk_42 (dk_at dksX8_number_2 23 rfl rfl)
theorem dX8_number_70 : decode cX8_number 70 = .ok (.getfield 106, 3) := dk_180 0 106 (dk_at dksX8_number_3 0 rfl rfl)
theorem dX8_number_73 : decode cX8_number 73 = .ok (.if_icmp .eq 26, 3) := dk_159 0 26 (dk_at dksX8_number_3 3 rfl rfl)
theorem dX8_number_76 : decode cX8_number 76 = .ok (.aload_n 0, 1) := dk_42 (dk_at dksX8_number_3 6 rfl rfl)
theorem dX8_number_77 : decode cX8_number 77 = .ok (.getfield 96, 3) := dk_180 0 96 (dk_at dksX8_number_3 7 rfl rfl)
theorem dX8_number_80 : decode cX8_number 80 = .ok (.aload_n 0, 1) := dk_42 (dk_at dksX8_number_3 10 rfl rfl)
theorem dX8_number_81 : decode cX8_number 81 = .ok (.getfield 106, 3) := dk_180 0 106 (dk_at dksX8_number_3 11 rfl rfl)
theorem dX8_number_84 : decode cX8_number 84 = .ok (.isub, 1) := dk_100 (dk_at dksX8_number_3 14 rfl rfl)
theorem dX8_number_85 : decode cX8_number 85 = .ok (.iconst 3, 1) := dk_6 (dk_at dksX8_number_3 15 rfl rfl)
theorem dX8_number_86 : decode cX8_number 86 = .ok (.if_icmp .gt 13, 3) := dk_163 0 13 (dk_at dksX8_number_3 16 rfl rfl)
theorem dX8_number_89 : decode cX8_number 89 = .ok (.iload_n 3, 1) := dk_29 (dk_at dksX8_number_3 19 rfl rfl)
theorem dX8_number_90 : decode cX8_number 90 = .ok (.iload_n 1, 1) := dk_27 (dk_at dksX8_number_3 20 rfl rfl)
theorem dX8_number_91 : decode cX8_number 91 = .ok (.if_icmp .lt 8, 3) := dk_161 0 8 (dk_at dksX8_number_3 21 rfl rfl)
theorem dX8_number_94 : decode cX8_number 94 = .ok (.iload_n 3, 1) := dk_29 (dk_at dksX8_number_4 0 rfl rfl)
theorem dX8_number_95 : decode cX8_number 95 = .ok (.iload_n 2, 1) := dk_28 (dk_at dksX8_number_4 1 rfl rfl)
theorem dX8_number_96 : decode cX8_number 96 = .ok (.if_icmp .le 7, 3) := dk_164 0 7 (dk_at dksX8_number_4 2 rfl rfl)
theorem dX8_number_99 : decode cX8_number 99 = .ok (.iconst (-1), 1) := dk_2 (dk_at dksX8_number_4 5 rfl rfl)
theorem dX8_number_100 : decode cX8_number 100 = .ok (.goto 4, 3) := dk_167 0 4 (dk_at dksX8_number_4 6 rfl rfl)
theorem dX8_number_103 : decode cX8_number 103 = .ok (.iload_n 3, 1) := dk_29 (dk_at dksX8_number_4 9 rfl rfl)
theorem dX8_number_104 : decode cX8_number 104 = .ok (.ireturn, 1) := dk_172 (dk_at dksX8_number_4 10 rfl rfl)
abbrev cX8_readProgram : ByteArray := prog_19_method_39_code
def yX8_readProgram : MethodName := ⟨RX8, "readProgram", "()Z"⟩
def dkwX8_readProgram_3 : List UInt8 := [172]
abbrev dktX8_readProgram_3 : List UInt8 := dkwX8_readProgram_3 ++ []
def dkwX8_readProgram_2 : List UInt8 := [42, 180, 0, 13, 16, 12, 27, 96, 29, 79, 132, 1, 1, 167, 255, 200, 42, 180, 0, 13, 6, 27, 79, 28]
abbrev dktX8_readProgram_2 : List UInt8 := dkwX8_readProgram_2 ++ dktX8_readProgram_3
def dkwX8_readProgram_1 : List UInt8 := [182, 0, 128, 62, 29, 155, 0, 13, 27, 16, 10, 162, 0, 7, 4, 167, 0, 4, 3, 61, 28, 153, 0, 13]
abbrev dktX8_readProgram_1 : List UInt8 := dkwX8_readProgram_1 ++ dktX8_readProgram_2
def dkwX8_readProgram_0 : List UInt8 := [3, 60, 4, 61, 28, 153, 0, 58, 42, 182, 0, 168, 153, 0, 51, 42, 3, 42, 182, 0, 84, 4, 100]
abbrev dktX8_readProgram_0 : List UInt8 := dkwX8_readProgram_0 ++ dktX8_readProgram_1
theorem dksX8_readProgram_0 : cX8_readProgram.data.toList.drop 0 = dktX8_readProgram_0 := by decide +kernel
theorem dksX8_readProgram_1 : cX8_readProgram.data.toList.drop 23 = dktX8_readProgram_1 := dk_seg dksX8_readProgram_0 23 rfl rfl
theorem dksX8_readProgram_2 : cX8_readProgram.data.toList.drop 47 = dktX8_readProgram_2 := dk_seg dksX8_readProgram_1 24 rfl rfl
theorem dksX8_readProgram_3 : cX8_readProgram.data.toList.drop 71 = dktX8_readProgram_3 := dk_seg dksX8_readProgram_2 24 rfl rfl
theorem dX8_readProgram_0 : decode cX8_readProgram 0 = .ok (.iconst 0, 1) := dk_3 (dk_at dksX8_readProgram_0 0 rfl rfl)
theorem dX8_readProgram_1 : decode cX8_readProgram 1 = .ok (.istore_n 1, 1) := dk_60 (dk_at dksX8_readProgram_0 1 rfl rfl)
theorem dX8_readProgram_2 : decode cX8_readProgram 2 = .ok (.iconst 1, 1) := dk_4 (dk_at dksX8_readProgram_0 2 rfl rfl)
theorem dX8_readProgram_3 : decode cX8_readProgram 3 = .ok (.istore_n 2, 1) := dk_61 (dk_at dksX8_readProgram_0 3 rfl rfl)
theorem dX8_readProgram_4 : decode cX8_readProgram 4 = .ok (.iload_n 2, 1) := dk_28 (dk_at dksX8_readProgram_0 4 rfl rfl)
theorem dX8_readProgram_5 : decode cX8_readProgram 5 = .ok (.ifCond .eq 58, 3) := dk_153 0 58 (dk_at dksX8_readProgram_0 5 rfl rfl)
theorem dX8_readProgram_8 : decode cX8_readProgram 8 = .ok (.aload_n 0, 1) := dk_42 (dk_at dksX8_readProgram_0 8 rfl rfl)
theorem dX8_readProgram_9 : decode cX8_readProgram 9 = .ok (.invokevirtual 168, 3) := dk_182 0 168 (dk_at dksX8_readProgram_0 9 rfl rfl)
theorem dX8_readProgram_12 : decode cX8_readProgram 12 = .ok (.ifCond .eq 51, 3) := dk_153 0 51 (dk_at dksX8_readProgram_0 12 rfl rfl)
theorem dX8_readProgram_15 : decode cX8_readProgram 15 = .ok (.aload_n 0, 1) := dk_42 (dk_at dksX8_readProgram_0 15 rfl rfl)
theorem dX8_readProgram_16 : decode cX8_readProgram 16 = .ok (.iconst 0, 1) := dk_3 (dk_at dksX8_readProgram_0 16 rfl rfl)
theorem dX8_readProgram_17 : decode cX8_readProgram 17 = .ok (.aload_n 0, 1) := dk_42 (dk_at dksX8_readProgram_0 17 rfl rfl)
theorem dX8_readProgram_18 : decode cX8_readProgram 18 = .ok (.invokevirtual 84, 3) := dk_182 0 84 (dk_at dksX8_readProgram_0 18 rfl rfl)
theorem dX8_readProgram_21 : decode cX8_readProgram 21 = .ok (.iconst 1, 1) := dk_4 (dk_at dksX8_readProgram_0 21 rfl rfl)
theorem dX8_readProgram_22 : decode cX8_readProgram 22 = .ok (.isub, 1) := dk_100 (dk_at dksX8_readProgram_0 22 rfl rfl)
theorem dX8_readProgram_23 : decode cX8_readProgram 23 = .ok (.invokevirtual 128, 3) := dk_182 0 128 (dk_at dksX8_readProgram_1 0 rfl rfl)
theorem dX8_readProgram_26 : decode cX8_readProgram 26 = .ok (.istore_n 3, 1) := dk_62 (dk_at dksX8_readProgram_1 3 rfl rfl)
theorem dX8_readProgram_27 : decode cX8_readProgram 27 = .ok (.iload_n 3, 1) := dk_29 (dk_at dksX8_readProgram_1 4 rfl rfl)
theorem dX8_readProgram_28 : decode cX8_readProgram 28 = .ok (.ifCond .lt 13, 3) := dk_155 0 13 (dk_at dksX8_readProgram_1 5 rfl rfl)
theorem dX8_readProgram_31 : decode cX8_readProgram 31 = .ok (.iload_n 1, 1) := dk_27 (dk_at dksX8_readProgram_1 8 rfl rfl)
theorem dX8_readProgram_32 : decode cX8_readProgram 32 = .ok (.bipush 10, 2) := dk_16 10 (dk_at dksX8_readProgram_1 9 rfl rfl)
theorem dX8_readProgram_34 : decode cX8_readProgram 34 = .ok (.if_icmp .ge 7, 3) := dk_162 0 7 (dk_at dksX8_readProgram_1 11 rfl rfl)
theorem dX8_readProgram_37 : decode cX8_readProgram 37 = .ok (.iconst 1, 1) := dk_4 (dk_at dksX8_readProgram_1 14 rfl rfl)
theorem dX8_readProgram_38 : decode cX8_readProgram 38 = .ok (.goto 4, 3) := dk_167 0 4 (dk_at dksX8_readProgram_1 15 rfl rfl)
theorem dX8_readProgram_41 : decode cX8_readProgram 41 = .ok (.iconst 0, 1) := dk_3 (dk_at dksX8_readProgram_1 18 rfl rfl)
theorem dX8_readProgram_42 : decode cX8_readProgram 42 = .ok (.istore_n 2, 1) := dk_61 (dk_at dksX8_readProgram_1 19 rfl rfl)
theorem dX8_readProgram_43 : decode cX8_readProgram 43 = .ok (.iload_n 2, 1) := dk_28 (dk_at dksX8_readProgram_1 20 rfl rfl)
theorem dX8_readProgram_44 : decode cX8_readProgram 44 = .ok (.ifCond .eq 13, 3) := dk_153 0 13 (dk_at dksX8_readProgram_1 21 rfl rfl)
theorem dX8_readProgram_47 : decode cX8_readProgram 47 = .ok (.aload_n 0, 1) := dk_42 (dk_at dksX8_readProgram_2 0 rfl rfl)
theorem dX8_readProgram_48 : decode cX8_readProgram 48 = .ok (.getfield 13, 3) := dk_180 0 13 (dk_at dksX8_readProgram_2 1 rfl rfl)
theorem dX8_readProgram_51 : decode cX8_readProgram 51 = .ok (.bipush 12, 2) := dk_16 12 (dk_at dksX8_readProgram_2 4 rfl rfl)
theorem dX8_readProgram_53 : decode cX8_readProgram 53 = .ok (.iload_n 1, 1) := dk_27 (dk_at dksX8_readProgram_2 6 rfl rfl)
theorem dX8_readProgram_54 : decode cX8_readProgram 54 = .ok (.iadd, 1) := dk_96 (dk_at dksX8_readProgram_2 7 rfl rfl)
theorem dX8_readProgram_55 : decode cX8_readProgram 55 = .ok (.iload_n 3, 1) := dk_29 (dk_at dksX8_readProgram_2 8 rfl rfl)
theorem dX8_readProgram_56 : decode cX8_readProgram 56 = .ok (.iastore, 1) := dk_79 (dk_at dksX8_readProgram_2 9 rfl rfl)
theorem dX8_readProgram_57 : decode cX8_readProgram 57 = .ok (.iinc 1 1, 3) := dk_132 1 1 (dk_at dksX8_readProgram_2 10 rfl rfl)
theorem dX8_readProgram_60 : decode cX8_readProgram 60 = .ok (.goto (-56), 3) := dk_167 255 200 (dk_at dksX8_readProgram_2 13 rfl rfl)
theorem dX8_readProgram_63 : decode cX8_readProgram 63 = .ok (.aload_n 0, 1) := dk_42 (dk_at dksX8_readProgram_2 16 rfl rfl)
theorem dX8_readProgram_64 : decode cX8_readProgram 64 = .ok (.getfield 13, 3) := dk_180 0 13 (dk_at dksX8_readProgram_2 17 rfl rfl)
theorem dX8_readProgram_67 : decode cX8_readProgram 67 = .ok (.iconst 3, 1) := dk_6 (dk_at dksX8_readProgram_2 20 rfl rfl)
theorem dX8_readProgram_68 : decode cX8_readProgram 68 = .ok (.iload_n 1, 1) := dk_27 (dk_at dksX8_readProgram_2 21 rfl rfl)
theorem dX8_readProgram_69 : decode cX8_readProgram 69 = .ok (.iastore, 1) := dk_79 (dk_at dksX8_readProgram_2 22 rfl rfl)
theorem dX8_readProgram_70 : decode cX8_readProgram 70 = .ok (.iload_n 2, 1) := dk_28 (dk_at dksX8_readProgram_2 23 rfl rfl)
theorem dX8_readProgram_71 : decode cX8_readProgram 71 = .ok (.ireturn, 1) := dk_172 (dk_at dksX8_readProgram_3 0 rfl rfl)
abbrev cX8_isNumberNext : ByteArray := prog_19_method_31_code
def yX8_isNumberNext : MethodName := ⟨RX8, "isNumberNext", "()Z"⟩
def dkwX8_isNumberNext_0 : List UInt8 := [42, 182, 0, 109, 42, 16, 48, 16, 57, 182, 0, 102, 172]
abbrev dktX8_isNumberNext_0 : List UInt8 := dkwX8_isNumberNext_0 ++ []
theorem dksX8_isNumberNext_0 : cX8_isNumberNext.data.toList.drop 0 = dktX8_isNumberNext_0 := by decide +kernel
theorem dX8_isNumberNext_0 : decode cX8_isNumberNext 0 = .ok (.aload_n 0, 1) := dk_42 (dk_at dksX8_isNumberNext_0 0 rfl rfl)
theorem dX8_isNumberNext_1 : decode cX8_isNumberNext 1 = .ok (.invokevirtual 109, 3) := dk_182 0 109 (dk_at dksX8_isNumberNext_0 1 rfl rfl)
theorem dX8_isNumberNext_4 : decode cX8_isNumberNext 4 = .ok (.aload_n 0, 1) := dk_42 (dk_at dksX8_isNumberNext_0 4 rfl rfl)
theorem dX8_isNumberNext_5 : decode cX8_isNumberNext 5 = .ok (.bipush 48, 2) := dk_16 48 (dk_at dksX8_isNumberNext_0 5 rfl rfl)
theorem dX8_isNumberNext_7 : decode cX8_isNumberNext 7 = .ok (.bipush 57, 2) := dk_16 57 (dk_at dksX8_isNumberNext_0 7 rfl rfl)
theorem dX8_isNumberNext_9 : decode cX8_isNumberNext 9 = .ok (.invokevirtual 102, 3) := dk_182 0 102 (dk_at dksX8_isNumberNext_0 9 rfl rfl)
theorem dX8_isNumberNext_12 : decode cX8_isNumberNext 12 = .ok (.ireturn, 1) := dk_172 (dk_at dksX8_isNumberNext_0 12 rfl rfl)
abbrev cX8_readCells : ByteArray := prog_19_method_40_code
def yX8_readCells : MethodName := ⟨RX8, "readCells", "()Z"⟩
def dkwX8_readCells_3 : List UInt8 := [167, 255, 192, 28, 172]
abbrev dktX8_readCells_3 : List UInt8 := dkwX8_readCells_3 ++ []
def dkwX8_readCells_2 : List UInt8 := [21, 4, 79, 132, 1, 1, 28, 153, 0, 14, 42, 182, 0, 168, 153, 0, 7, 4, 167, 0, 4, 3, 62]
abbrev dktX8_readCells_2 : List UInt8 := dkwX8_readCells_2 ++ dktX8_readCells_3
def dkwX8_readCells_1 : List UInt8 := [16, 8, 162, 0, 7, 4, 167, 0, 4, 3, 61, 28, 153, 0, 14, 42, 180, 0, 13, 16, 22, 27, 96]
abbrev dktX8_readCells_1 : List UInt8 := dkwX8_readCells_1 ++ dktX8_readCells_2
def dkwX8_readCells_0 : List UInt8 := [3, 60, 4, 61, 4, 62, 29, 153, 0, 66, 42, 3, 6, 182, 0, 128, 54, 4, 21, 4, 155, 0, 13, 27]
abbrev dktX8_readCells_0 : List UInt8 := dkwX8_readCells_0 ++ dktX8_readCells_1
theorem dksX8_readCells_0 : cX8_readCells.data.toList.drop 0 = dktX8_readCells_0 := by decide +kernel
theorem dksX8_readCells_1 : cX8_readCells.data.toList.drop 24 = dktX8_readCells_1 := dk_seg dksX8_readCells_0 24 rfl rfl
theorem dksX8_readCells_2 : cX8_readCells.data.toList.drop 47 = dktX8_readCells_2 := dk_seg dksX8_readCells_1 23 rfl rfl
theorem dksX8_readCells_3 : cX8_readCells.data.toList.drop 70 = dktX8_readCells_3 := dk_seg dksX8_readCells_2 23 rfl rfl
theorem dX8_readCells_0 : decode cX8_readCells 0 = .ok (.iconst 0, 1) := dk_3 (dk_at dksX8_readCells_0 0 rfl rfl)
theorem dX8_readCells_1 : decode cX8_readCells 1 = .ok (.istore_n 1, 1) := dk_60 (dk_at dksX8_readCells_0 1 rfl rfl)
theorem dX8_readCells_2 : decode cX8_readCells 2 = .ok (.iconst 1, 1) := dk_4 (dk_at dksX8_readCells_0 2 rfl rfl)
theorem dX8_readCells_3 : decode cX8_readCells 3 = .ok (.istore_n 2, 1) := dk_61 (dk_at dksX8_readCells_0 3 rfl rfl)
theorem dX8_readCells_4 : decode cX8_readCells 4 = .ok (.iconst 1, 1) := dk_4 (dk_at dksX8_readCells_0 4 rfl rfl)
theorem dX8_readCells_5 : decode cX8_readCells 5 = .ok (.istore_n 3, 1) := dk_62 (dk_at dksX8_readCells_0 5 rfl rfl)
theorem dX8_readCells_6 : decode cX8_readCells 6 = .ok (.iload_n 3, 1) := dk_29 (dk_at dksX8_readCells_0 6 rfl rfl)
theorem dX8_readCells_7 : decode cX8_readCells 7 = .ok (.ifCond .eq 66, 3) := dk_153 0 66 (dk_at dksX8_readCells_0 7 rfl rfl)
theorem dX8_readCells_10 : decode cX8_readCells 10 = .ok (.aload_n 0, 1) := dk_42 (dk_at dksX8_readCells_0 10 rfl rfl)
theorem dX8_readCells_11 : decode cX8_readCells 11 = .ok (.iconst 0, 1) := dk_3 (dk_at dksX8_readCells_0 11 rfl rfl)
theorem dX8_readCells_12 : decode cX8_readCells 12 = .ok (.iconst 3, 1) := dk_6 (dk_at dksX8_readCells_0 12 rfl rfl)
theorem dX8_readCells_13 : decode cX8_readCells 13 = .ok (.invokevirtual 128, 3) := dk_182 0 128 (dk_at dksX8_readCells_0 13 rfl rfl)
theorem dX8_readCells_16 : decode cX8_readCells 16 = .ok (.istore 4, 2) := dk_54 4 (dk_at dksX8_readCells_0 16 rfl rfl)
theorem dX8_readCells_18 : decode cX8_readCells 18 = .ok (.iload 4, 2) := dk_21 4 (dk_at dksX8_readCells_0 18 rfl rfl)
theorem dX8_readCells_20 : decode cX8_readCells 20 = .ok (.ifCond .lt 13, 3) := dk_155 0 13 (dk_at dksX8_readCells_0 20 rfl rfl)
theorem dX8_readCells_23 : decode cX8_readCells 23 = .ok (.iload_n 1, 1) := dk_27 (dk_at dksX8_readCells_0 23 rfl rfl)
theorem dX8_readCells_24 : decode cX8_readCells 24 = .ok (.bipush 8, 2) := dk_16 8 (dk_at dksX8_readCells_1 0 rfl rfl)
theorem dX8_readCells_26 : decode cX8_readCells 26 = .ok (.if_icmp .ge 7, 3) := dk_162 0 7 (dk_at dksX8_readCells_1 2 rfl rfl)
theorem dX8_readCells_29 : decode cX8_readCells 29 = .ok (.iconst 1, 1) := dk_4 (dk_at dksX8_readCells_1 5 rfl rfl)
theorem dX8_readCells_30 : decode cX8_readCells 30 = .ok (.goto 4, 3) := dk_167 0 4 (dk_at dksX8_readCells_1 6 rfl rfl)
theorem dX8_readCells_33 : decode cX8_readCells 33 = .ok (.iconst 0, 1) := dk_3 (dk_at dksX8_readCells_1 9 rfl rfl)
theorem dX8_readCells_34 : decode cX8_readCells 34 = .ok (.istore_n 2, 1) := dk_61 (dk_at dksX8_readCells_1 10 rfl rfl)
theorem dX8_readCells_35 : decode cX8_readCells 35 = .ok (.iload_n 2, 1) := dk_28 (dk_at dksX8_readCells_1 11 rfl rfl)
theorem dX8_readCells_36 : decode cX8_readCells 36 = .ok (.ifCond .eq 14, 3) := dk_153 0 14 (dk_at dksX8_readCells_1 12 rfl rfl)
theorem dX8_readCells_39 : decode cX8_readCells 39 = .ok (.aload_n 0, 1) := dk_42 (dk_at dksX8_readCells_1 15 rfl rfl)
theorem dX8_readCells_40 : decode cX8_readCells 40 = .ok (.getfield 13, 3) := dk_180 0 13 (dk_at dksX8_readCells_1 16 rfl rfl)
theorem dX8_readCells_43 : decode cX8_readCells 43 = .ok (.bipush 22, 2) := dk_16 22 (dk_at dksX8_readCells_1 19 rfl rfl)
theorem dX8_readCells_45 : decode cX8_readCells 45 = .ok (.iload_n 1, 1) := dk_27 (dk_at dksX8_readCells_1 21 rfl rfl)
theorem dX8_readCells_46 : decode cX8_readCells 46 = .ok (.iadd, 1) := dk_96 (dk_at dksX8_readCells_1 22 rfl rfl)
theorem dX8_readCells_47 : decode cX8_readCells 47 = .ok (.iload 4, 2) := dk_21 4 (dk_at dksX8_readCells_2 0 rfl rfl)
theorem dX8_readCells_49 : decode cX8_readCells 49 = .ok (.iastore, 1) := dk_79 (dk_at dksX8_readCells_2 2 rfl rfl)
theorem dX8_readCells_50 : decode cX8_readCells 50 = .ok (.iinc 1 1, 3) := dk_132 1 1 (dk_at dksX8_readCells_2 3 rfl rfl)
theorem dX8_readCells_53 : decode cX8_readCells 53 = .ok (.iload_n 2, 1) := dk_28 (dk_at dksX8_readCells_2 6 rfl rfl)
theorem dX8_readCells_54 : decode cX8_readCells 54 = .ok (.ifCond .eq 14, 3) := dk_153 0 14 (dk_at dksX8_readCells_2 7 rfl rfl)
theorem dX8_readCells_57 : decode cX8_readCells 57 = .ok (.aload_n 0, 1) := dk_42 (dk_at dksX8_readCells_2 10 rfl rfl)
theorem dX8_readCells_58 : decode cX8_readCells 58 = .ok (.invokevirtual 168, 3) := dk_182 0 168 (dk_at dksX8_readCells_2 11 rfl rfl)
theorem dX8_readCells_61 : decode cX8_readCells 61 = .ok (.ifCond .eq 7, 3) := dk_153 0 7 (dk_at dksX8_readCells_2 14 rfl rfl)
theorem dX8_readCells_64 : decode cX8_readCells 64 = .ok (.iconst 1, 1) := dk_4 (dk_at dksX8_readCells_2 17 rfl rfl)
theorem dX8_readCells_65 : decode cX8_readCells 65 = .ok (.goto 4, 3) := dk_167 0 4 (dk_at dksX8_readCells_2 18 rfl rfl)
theorem dX8_readCells_68 : decode cX8_readCells 68 = .ok (.iconst 0, 1) := dk_3 (dk_at dksX8_readCells_2 21 rfl rfl)
theorem dX8_readCells_69 : decode cX8_readCells 69 = .ok (.istore_n 3, 1) := dk_62 (dk_at dksX8_readCells_2 22 rfl rfl)
theorem dX8_readCells_70 : decode cX8_readCells 70 = .ok (.goto (-64), 3) := dk_167 255 192 (dk_at dksX8_readCells_3 0 rfl rfl)
theorem dX8_readCells_73 : decode cX8_readCells 73 = .ok (.iload_n 2, 1) := dk_28 (dk_at dksX8_readCells_3 3 rfl rfl)
theorem dX8_readCells_74 : decode cX8_readCells 74 = .ok (.ireturn, 1) := dk_172 (dk_at dksX8_readCells_3 4 rfl rfl)
abbrev cX8_readNumber : ByteArray := prog_19_method_34_code
def yX8_readNumber : MethodName := ⟨RX8, "readNumber", "(II)Z"⟩
def dkwX8_readNumber_1 : List UInt8 := [167, 0, 4, 29, 79, 29, 155, 0, 7, 4, 167, 0, 4, 3, 172]
abbrev dktX8_readNumber_1 : List UInt8 := dkwX8_readNumber_1 ++ []
def dkwX8_readNumber_0 : List UInt8 := [42, 3, 28, 182, 0, 128, 62, 42, 180, 0, 13, 27, 29, 156, 0, 12, 42, 180, 0, 13, 27, 46]
abbrev dktX8_readNumber_0 : List UInt8 := dkwX8_readNumber_0 ++ dktX8_readNumber_1
theorem dksX8_readNumber_0 : cX8_readNumber.data.toList.drop 0 = dktX8_readNumber_0 := by decide +kernel
theorem dksX8_readNumber_1 : cX8_readNumber.data.toList.drop 22 = dktX8_readNumber_1 := dk_seg dksX8_readNumber_0 22 rfl rfl
theorem dX8_readNumber_0 : decode cX8_readNumber 0 = .ok (.aload_n 0, 1) := dk_42 (dk_at dksX8_readNumber_0 0 rfl rfl)
theorem dX8_readNumber_1 : decode cX8_readNumber 1 = .ok (.iconst 0, 1) := dk_3 (dk_at dksX8_readNumber_0 1 rfl rfl)
theorem dX8_readNumber_2 : decode cX8_readNumber 2 = .ok (.iload_n 2, 1) := dk_28 (dk_at dksX8_readNumber_0 2 rfl rfl)
theorem dX8_readNumber_3 : decode cX8_readNumber 3 = .ok (.invokevirtual 128, 3) := dk_182 0 128 (dk_at dksX8_readNumber_0 3 rfl rfl)
theorem dX8_readNumber_6 : decode cX8_readNumber 6 = .ok (.istore_n 3, 1) := dk_62 (dk_at dksX8_readNumber_0 6 rfl rfl)
theorem dX8_readNumber_7 : decode cX8_readNumber 7 = .ok (.aload_n 0, 1) := dk_42 (dk_at dksX8_readNumber_0 7 rfl rfl)
theorem dX8_readNumber_8 : decode cX8_readNumber 8 = .ok (.getfield 13, 3) := dk_180 0 13 (dk_at dksX8_readNumber_0 8 rfl rfl)
theorem dX8_readNumber_11 : decode cX8_readNumber 11 = .ok (.iload_n 1, 1) := dk_27 (dk_at dksX8_readNumber_0 11 rfl rfl)
theorem dX8_readNumber_12 : decode cX8_readNumber 12 = .ok (.iload_n 3, 1) := dk_29 (dk_at dksX8_readNumber_0 12 rfl rfl)
theorem dX8_readNumber_13 : decode cX8_readNumber 13 = .ok (.ifCond .ge 12, 3) := dk_156 0 12 (dk_at dksX8_readNumber_0 13 rfl rfl)
theorem dX8_readNumber_16 : decode cX8_readNumber 16 = .ok (.aload_n 0, 1) := dk_42 (dk_at dksX8_readNumber_0 16 rfl rfl)
theorem dX8_readNumber_17 : decode cX8_readNumber 17 = .ok (.getfield 13, 3) := dk_180 0 13 (dk_at dksX8_readNumber_0 17 rfl rfl)
theorem dX8_readNumber_20 : decode cX8_readNumber 20 = .ok (.iload_n 1, 1) := dk_27 (dk_at dksX8_readNumber_0 20 rfl rfl)
theorem dX8_readNumber_21 : decode cX8_readNumber 21 = .ok (.iaload, 1) := dk_46 (dk_at dksX8_readNumber_0 21 rfl rfl)
theorem dX8_readNumber_22 : decode cX8_readNumber 22 = .ok (.goto 4, 3) := dk_167 0 4 (dk_at dksX8_readNumber_1 0 rfl rfl)
theorem dX8_readNumber_25 : decode cX8_readNumber 25 = .ok (.iload_n 3, 1) := dk_29 (dk_at dksX8_readNumber_1 3 rfl rfl)
theorem dX8_readNumber_26 : decode cX8_readNumber 26 = .ok (.iastore, 1) := dk_79 (dk_at dksX8_readNumber_1 4 rfl rfl)
theorem dX8_readNumber_27 : decode cX8_readNumber 27 = .ok (.iload_n 3, 1) := dk_29 (dk_at dksX8_readNumber_1 5 rfl rfl)
theorem dX8_readNumber_28 : decode cX8_readNumber 28 = .ok (.ifCond .lt 7, 3) := dk_155 0 7 (dk_at dksX8_readNumber_1 6 rfl rfl)
theorem dX8_readNumber_31 : decode cX8_readNumber 31 = .ok (.iconst 1, 1) := dk_4 (dk_at dksX8_readNumber_1 9 rfl rfl)
theorem dX8_readNumber_32 : decode cX8_readNumber 32 = .ok (.goto 4, 3) := dk_167 0 4 (dk_at dksX8_readNumber_1 10 rfl rfl)
theorem dX8_readNumber_35 : decode cX8_readNumber 35 = .ok (.iconst 0, 1) := dk_3 (dk_at dksX8_readNumber_1 13 rfl rfl)
theorem dX8_readNumber_36 : decode cX8_readNumber 36 = .ok (.ireturn, 1) := dk_172 (dk_at dksX8_readNumber_1 14 rfl rfl)
abbrev cX8_readShift : ByteArray := prog_19_method_41_code
def yX8_readShift : MethodName := ⟨RX8, "readShift", "()Z"⟩
def dkwX8_readShift_1 : List UInt8 := [79, 27, 172]
abbrev dktX8_readShift_1 : List UInt8 := dkwX8_readShift_1 ++ []
def dkwX8_readShift_0 : List UInt8 := [42, 8, 6, 182, 0, 172, 60, 42, 180, 0, 13, 8, 92, 46, 27, 153, 0, 7, 5, 167, 0, 4, 4, 104]
abbrev dktX8_readShift_0 : List UInt8 := dkwX8_readShift_0 ++ dktX8_readShift_1
theorem dksX8_readShift_0 : cX8_readShift.data.toList.drop 0 = dktX8_readShift_0 := by decide +kernel
theorem dksX8_readShift_1 : cX8_readShift.data.toList.drop 24 = dktX8_readShift_1 := dk_seg dksX8_readShift_0 24 rfl rfl
theorem dX8_readShift_0 : decode cX8_readShift 0 = .ok (.aload_n 0, 1) := dk_42 (dk_at dksX8_readShift_0 0 rfl rfl)
theorem dX8_readShift_1 : decode cX8_readShift 1 = .ok (.iconst 5, 1) := dk_8 (dk_at dksX8_readShift_0 1 rfl rfl)
theorem dX8_readShift_2 : decode cX8_readShift 2 = .ok (.iconst 3, 1) := dk_6 (dk_at dksX8_readShift_0 2 rfl rfl)
theorem dX8_readShift_3 : decode cX8_readShift 3 = .ok (.invokevirtual 172, 3) := dk_182 0 172 (dk_at dksX8_readShift_0 3 rfl rfl)
theorem dX8_readShift_6 : decode cX8_readShift 6 = .ok (.istore_n 1, 1) := dk_60 (dk_at dksX8_readShift_0 6 rfl rfl)
theorem dX8_readShift_7 : decode cX8_readShift 7 = .ok (.aload_n 0, 1) := dk_42 (dk_at dksX8_readShift_0 7 rfl rfl)
theorem dX8_readShift_8 : decode cX8_readShift 8 = .ok (.getfield 13, 3) := dk_180 0 13 (dk_at dksX8_readShift_0 8 rfl rfl)
theorem dX8_readShift_11 : decode cX8_readShift 11 = .ok (.iconst 5, 1) := dk_8 (dk_at dksX8_readShift_0 11 rfl rfl)
theorem dX8_readShift_12 : decode cX8_readShift 12 = .ok (.dup2, 1) := dk_92 (dk_at dksX8_readShift_0 12 rfl rfl)
theorem dX8_readShift_13 : decode cX8_readShift 13 = .ok (.iaload, 1) := dk_46 (dk_at dksX8_readShift_0 13 rfl rfl)
theorem dX8_readShift_14 : decode cX8_readShift 14 = .ok (.iload_n 1, 1) := dk_27 (dk_at dksX8_readShift_0 14 rfl rfl)
theorem dX8_readShift_15 : decode cX8_readShift 15 = .ok (.ifCond .eq 7, 3) := dk_153 0 7 (dk_at dksX8_readShift_0 15 rfl rfl)
theorem dX8_readShift_18 : decode cX8_readShift 18 = .ok (.iconst 2, 1) := dk_5 (dk_at dksX8_readShift_0 18 rfl rfl)
theorem dX8_readShift_19 : decode cX8_readShift 19 = .ok (.goto 4, 3) := dk_167 0 4 (dk_at dksX8_readShift_0 19 rfl rfl)
theorem dX8_readShift_22 : decode cX8_readShift 22 = .ok (.iconst 1, 1) := dk_4 (dk_at dksX8_readShift_0 22 rfl rfl)
theorem dX8_readShift_23 : decode cX8_readShift 23 = .ok (.imul, 1) := dk_104 (dk_at dksX8_readShift_0 23 rfl rfl)
theorem dX8_readShift_24 : decode cX8_readShift 24 = .ok (.iastore, 1) := dk_79 (dk_at dksX8_readShift_1 0 rfl rfl)
theorem dX8_readShift_25 : decode cX8_readShift 25 = .ok (.iload_n 1, 1) := dk_27 (dk_at dksX8_readShift_1 1 rfl rfl)
theorem dX8_readShift_26 : decode cX8_readShift 26 = .ok (.ireturn, 1) := dk_172 (dk_at dksX8_readShift_1 2 rfl rfl)
abbrev cX8_readLawLine : ByteArray := prog_19_method_51_code
def yX8_readLawLine : MethodName := ⟨RX8, "readLawLine", "(I)Z"⟩
def dkwX8_readLawLine_6 : List UInt8 := [4, 172]
abbrev dktX8_readLawLine_6 : List UInt8 := dkwX8_readLawLine_6 ++ []
def dkwX8_readLawLine_5 : List UInt8 := [153, 0, 12, 42, 182, 0, 237, 154, 0, 5, 3, 172, 42, 180, 0, 13, 28, 6, 96, 42, 180, 0, 202, 79]
abbrev dktX8_readLawLine_5 : List UInt8 := dkwX8_readLawLine_5 ++ dktX8_readLawLine_6
def dkwX8_readLawLine_4 : List UInt8 := [42, 180, 0, 13, 28, 5, 96, 42, 180, 0, 202, 79, 42, 3, 181, 0, 234, 42, 19, 1, 6, 182, 0, 162]
abbrev dktX8_readLawLine_4 : List UInt8 := dkwX8_readLawLine_4 ++ dktX8_readLawLine_5
def dkwX8_readLawLine_3 : List UInt8 := [28, 4, 96, 42, 3, 16, 40, 182, 0, 128, 79, 42, 180, 0, 13, 28, 4, 96, 46, 156, 0, 5, 3, 172]
abbrev dktX8_readLawLine_3 : List UInt8 := dkwX8_readLawLine_3 ++ dktX8_readLawLine_4
def dkwX8_readLawLine_2 : List UInt8 := [153, 0, 7, 5, 167, 0, 4, 2, 79, 42, 180, 0, 13, 28, 46, 156, 0, 5, 3, 172, 42, 180, 0, 13]
abbrev dktX8_readLawLine_2 : List UInt8 := dkwX8_readLawLine_2 ++ dktX8_readLawLine_3
def dkwX8_readLawLine_1 : List UInt8 := [167, 0, 32, 42, 19, 1, 2, 182, 0, 124, 153, 0, 7, 4, 167, 0, 18, 42, 19, 1, 4, 182, 0, 124]
abbrev dktX8_readLawLine_1 : List UInt8 := dkwX8_readLawLine_1 ++ dktX8_readLawLine_2
def dkwX8_readLawLine_0 : List UInt8 := [17, 4, 194, 7, 27, 104, 96, 61, 42, 180, 0, 13, 28, 42, 18, 196, 182, 0, 124, 153, 0, 7, 3]
abbrev dktX8_readLawLine_0 : List UInt8 := dkwX8_readLawLine_0 ++ dktX8_readLawLine_1
theorem dksX8_readLawLine_0 : cX8_readLawLine.data.toList.drop 0 = dktX8_readLawLine_0 := by decide +kernel
theorem dksX8_readLawLine_1 : cX8_readLawLine.data.toList.drop 23 = dktX8_readLawLine_1 := dk_seg dksX8_readLawLine_0 23 rfl rfl
theorem dksX8_readLawLine_2 : cX8_readLawLine.data.toList.drop 47 = dktX8_readLawLine_2 := dk_seg dksX8_readLawLine_1 24 rfl rfl
theorem dksX8_readLawLine_3 : cX8_readLawLine.data.toList.drop 71 = dktX8_readLawLine_3 := dk_seg dksX8_readLawLine_2 24 rfl rfl
theorem dksX8_readLawLine_4 : cX8_readLawLine.data.toList.drop 95 = dktX8_readLawLine_4 := dk_seg dksX8_readLawLine_3 24 rfl rfl
theorem dksX8_readLawLine_5 : cX8_readLawLine.data.toList.drop 119 = dktX8_readLawLine_5 := dk_seg dksX8_readLawLine_4 24 rfl rfl
theorem dksX8_readLawLine_6 : cX8_readLawLine.data.toList.drop 143 = dktX8_readLawLine_6 := dk_seg dksX8_readLawLine_5 24 rfl rfl
theorem dX8_readLawLine_0 : decode cX8_readLawLine 0 = .ok (.sipush 1218, 3) := dk_17 4 194 (dk_at dksX8_readLawLine_0 0 rfl rfl)
theorem dX8_readLawLine_3 : decode cX8_readLawLine 3 = .ok (.iconst 4, 1) := dk_7 (dk_at dksX8_readLawLine_0 3 rfl rfl)
theorem dX8_readLawLine_4 : decode cX8_readLawLine 4 = .ok (.iload_n 1, 1) := dk_27 (dk_at dksX8_readLawLine_0 4 rfl rfl)
theorem dX8_readLawLine_5 : decode cX8_readLawLine 5 = .ok (.imul, 1) := dk_104 (dk_at dksX8_readLawLine_0 5 rfl rfl)
theorem dX8_readLawLine_6 : decode cX8_readLawLine 6 = .ok (.iadd, 1) := dk_96 (dk_at dksX8_readLawLine_0 6 rfl rfl)
theorem dX8_readLawLine_7 : decode cX8_readLawLine 7 = .ok (.istore_n 2, 1) := dk_61 (dk_at dksX8_readLawLine_0 7 rfl rfl)
theorem dX8_readLawLine_8 : decode cX8_readLawLine 8 = .ok (.aload_n 0, 1) := dk_42 (dk_at dksX8_readLawLine_0 8 rfl rfl)
theorem dX8_readLawLine_9 : decode cX8_readLawLine 9 = .ok (.getfield 13, 3) := dk_180 0 13 (dk_at dksX8_readLawLine_0 9 rfl rfl)
theorem dX8_readLawLine_12 : decode cX8_readLawLine 12 = .ok (.iload_n 2, 1) := dk_28 (dk_at dksX8_readLawLine_0 12 rfl rfl)
theorem dX8_readLawLine_13 : decode cX8_readLawLine 13 = .ok (.aload_n 0, 1) := dk_42 (dk_at dksX8_readLawLine_0 13 rfl rfl)
theorem dX8_readLawLine_14 : decode cX8_readLawLine 14 = .ok (.ldc 196, 2) := dk_18 196 (dk_at dksX8_readLawLine_0 14 rfl rfl)
theorem dX8_readLawLine_16 : decode cX8_readLawLine 16 = .ok (.invokevirtual 124, 3) := dk_182 0 124 (dk_at dksX8_readLawLine_0 16 rfl rfl)
theorem dX8_readLawLine_19 : decode cX8_readLawLine 19 = .ok (.ifCond .eq 7, 3) := dk_153 0 7 (dk_at dksX8_readLawLine_0 19 rfl rfl)
theorem dX8_readLawLine_22 : decode cX8_readLawLine 22 = .ok (.iconst 0, 1) := dk_3 (dk_at dksX8_readLawLine_0 22 rfl rfl)
theorem dX8_readLawLine_23 : decode cX8_readLawLine 23 = .ok (.goto 32, 3) := dk_167 0 32 (dk_at dksX8_readLawLine_1 0 rfl rfl)
theorem dX8_readLawLine_26 : decode cX8_readLawLine 26 = .ok (.aload_n 0, 1) := dk_42 (dk_at dksX8_readLawLine_1 3 rfl rfl)
theorem dX8_readLawLine_27 : decode cX8_readLawLine 27 = .ok (.ldc_w 258, 3) := dk_19 1 2 (dk_at dksX8_readLawLine_1 4 rfl rfl)
theorem dX8_readLawLine_30 : decode cX8_readLawLine 30 = .ok (.invokevirtual 124, 3) := dk_182 0 124 (dk_at dksX8_readLawLine_1 7 rfl rfl)
theorem dX8_readLawLine_33 : decode cX8_readLawLine 33 = .ok (.ifCond .eq 7, 3) := dk_153 0 7 (dk_at dksX8_readLawLine_1 10 rfl rfl)
theorem dX8_readLawLine_36 : decode cX8_readLawLine 36 = .ok (.iconst 1, 1) := dk_4 (dk_at dksX8_readLawLine_1 13 rfl rfl)
theorem dX8_readLawLine_37 : decode cX8_readLawLine 37 = .ok (.goto 18, 3) := dk_167 0 18 (dk_at dksX8_readLawLine_1 14 rfl rfl)
theorem dX8_readLawLine_40 : decode cX8_readLawLine 40 = .ok (.aload_n 0, 1) := dk_42 (dk_at dksX8_readLawLine_1 17 rfl rfl)
theorem dX8_readLawLine_41 : decode cX8_readLawLine 41 = .ok (.ldc_w 260, 3) := dk_19 1 4 (dk_at dksX8_readLawLine_1 18 rfl rfl)
theorem dX8_readLawLine_44 : decode cX8_readLawLine 44 = .ok (.invokevirtual 124, 3) := dk_182 0 124 (dk_at dksX8_readLawLine_1 21 rfl rfl)
theorem dX8_readLawLine_47 : decode cX8_readLawLine 47 = .ok (.ifCond .eq 7, 3) := dk_153 0 7 (dk_at dksX8_readLawLine_2 0 rfl rfl)
theorem dX8_readLawLine_50 : decode cX8_readLawLine 50 = .ok (.iconst 2, 1) := dk_5 (dk_at dksX8_readLawLine_2 3 rfl rfl)
theorem dX8_readLawLine_51 : decode cX8_readLawLine 51 = .ok (.goto 4, 3) := dk_167 0 4 (dk_at dksX8_readLawLine_2 4 rfl rfl)
theorem dX8_readLawLine_54 : decode cX8_readLawLine 54 = .ok (.iconst (-1), 1) := dk_2 (dk_at dksX8_readLawLine_2 7 rfl rfl)
theorem dX8_readLawLine_55 : decode cX8_readLawLine 55 = .ok (.iastore, 1) := dk_79 (dk_at dksX8_readLawLine_2 8 rfl rfl)
theorem dX8_readLawLine_56 : decode cX8_readLawLine 56 = .ok (.aload_n 0, 1) := dk_42 (dk_at dksX8_readLawLine_2 9 rfl rfl)
theorem dX8_readLawLine_57 : decode cX8_readLawLine 57 = .ok (.getfield 13, 3) := dk_180 0 13 (dk_at dksX8_readLawLine_2 10 rfl rfl)
theorem dX8_readLawLine_60 : decode cX8_readLawLine 60 = .ok (.iload_n 2, 1) := dk_28 (dk_at dksX8_readLawLine_2 13 rfl rfl)
theorem dX8_readLawLine_61 : decode cX8_readLawLine 61 = .ok (.iaload, 1) := dk_46 (dk_at dksX8_readLawLine_2 14 rfl rfl)
theorem dX8_readLawLine_62 : decode cX8_readLawLine 62 = .ok (.ifCond .ge 5, 3) := dk_156 0 5 (dk_at dksX8_readLawLine_2 15 rfl rfl)
theorem dX8_readLawLine_65 : decode cX8_readLawLine 65 = .ok (.iconst 0, 1) := dk_3 (dk_at dksX8_readLawLine_2 18 rfl rfl)
theorem dX8_readLawLine_66 : decode cX8_readLawLine 66 = .ok (.ireturn, 1) := dk_172 (dk_at dksX8_readLawLine_2 19 rfl rfl)
theorem dX8_readLawLine_67 : decode cX8_readLawLine 67 = .ok (.aload_n 0, 1) := dk_42 (dk_at dksX8_readLawLine_2 20 rfl rfl)
theorem dX8_readLawLine_68 : decode cX8_readLawLine 68 = .ok (.getfield 13, 3) := dk_180 0 13 (dk_at dksX8_readLawLine_2 21 rfl rfl)
theorem dX8_readLawLine_71 : decode cX8_readLawLine 71 = .ok (.iload_n 2, 1) := dk_28 (dk_at dksX8_readLawLine_3 0 rfl rfl)
theorem dX8_readLawLine_72 : decode cX8_readLawLine 72 = .ok (.iconst 1, 1) := dk_4 (dk_at dksX8_readLawLine_3 1 rfl rfl)
theorem dX8_readLawLine_73 : decode cX8_readLawLine 73 = .ok (.iadd, 1) := dk_96 (dk_at dksX8_readLawLine_3 2 rfl rfl)
theorem dX8_readLawLine_74 : decode cX8_readLawLine 74 = .ok (.aload_n 0, 1) := dk_42 (dk_at dksX8_readLawLine_3 3 rfl rfl)
theorem dX8_readLawLine_75 : decode cX8_readLawLine 75 = .ok (.iconst 0, 1) := dk_3 (dk_at dksX8_readLawLine_3 4 rfl rfl)
theorem dX8_readLawLine_76 : decode cX8_readLawLine 76 = .ok (.bipush 40, 2) := dk_16 40 (dk_at dksX8_readLawLine_3 5 rfl rfl)
theorem dX8_readLawLine_78 : decode cX8_readLawLine 78 = .ok (.invokevirtual 128, 3) := dk_182 0 128 (dk_at dksX8_readLawLine_3 7 rfl rfl)
theorem dX8_readLawLine_81 : decode cX8_readLawLine 81 = .ok (.iastore, 1) := dk_79 (dk_at dksX8_readLawLine_3 10 rfl rfl)
theorem dX8_readLawLine_82 : decode cX8_readLawLine 82 = .ok (.aload_n 0, 1) := dk_42 (dk_at dksX8_readLawLine_3 11 rfl rfl)
theorem dX8_readLawLine_83 : decode cX8_readLawLine 83 = .ok (.getfield 13, 3) := dk_180 0 13 (dk_at dksX8_readLawLine_3 12 rfl rfl)
theorem dX8_readLawLine_86 : decode cX8_readLawLine 86 = .ok (.iload_n 2, 1) := dk_28 (dk_at dksX8_readLawLine_3 15 rfl rfl)
theorem dX8_readLawLine_87 : decode cX8_readLawLine 87 = .ok (.iconst 1, 1) := dk_4 (dk_at dksX8_readLawLine_3 16 rfl rfl)
theorem dX8_readLawLine_88 : decode cX8_readLawLine 88 = .ok (.iadd, 1) := dk_96 (dk_at dksX8_readLawLine_3 17 rfl rfl)
theorem dX8_readLawLine_89 : decode cX8_readLawLine 89 = .ok (.iaload, 1) := dk_46 (dk_at dksX8_readLawLine_3 18 rfl rfl)
theorem dX8_readLawLine_90 : decode cX8_readLawLine 90 = .ok (.ifCond .ge 5, 3) := dk_156 0 5 (dk_at dksX8_readLawLine_3 19 rfl rfl)
theorem dX8_readLawLine_93 : decode cX8_readLawLine 93 = .ok (.iconst 0, 1) := dk_3 (dk_at dksX8_readLawLine_3 22 rfl rfl)
theorem dX8_readLawLine_94 : decode cX8_readLawLine 94 = .ok (.ireturn, 1) := dk_172 (dk_at dksX8_readLawLine_3 23 rfl rfl)
theorem dX8_readLawLine_95 : decode cX8_readLawLine 95 = .ok (.aload_n 0, 1) := dk_42 (dk_at dksX8_readLawLine_4 0 rfl rfl)
theorem dX8_readLawLine_96 : decode cX8_readLawLine 96 = .ok (.getfield 13, 3) := dk_180 0 13 (dk_at dksX8_readLawLine_4 1 rfl rfl)
theorem dX8_readLawLine_99 : decode cX8_readLawLine 99 = .ok (.iload_n 2, 1) := dk_28 (dk_at dksX8_readLawLine_4 4 rfl rfl)
theorem dX8_readLawLine_100 : decode cX8_readLawLine 100 = .ok (.iconst 2, 1) := dk_5 (dk_at dksX8_readLawLine_4 5 rfl rfl)
theorem dX8_readLawLine_101 : decode cX8_readLawLine 101 = .ok (.iadd, 1) := dk_96 (dk_at dksX8_readLawLine_4 6 rfl rfl)
theorem dX8_readLawLine_102 : decode cX8_readLawLine 102 = .ok (.aload_n 0, 1) := dk_42 (dk_at dksX8_readLawLine_4 7 rfl rfl)
theorem dX8_readLawLine_103 : decode cX8_readLawLine 103 = .ok (.getfield 202, 3) := dk_180 0 202 (dk_at dksX8_readLawLine_4 8 rfl rfl)
theorem dX8_readLawLine_106 : decode cX8_readLawLine 106 = .ok (.iastore, 1) := dk_79 (dk_at dksX8_readLawLine_4 11 rfl rfl)
theorem dX8_readLawLine_107 : decode cX8_readLawLine 107 = .ok (.aload_n 0, 1) := dk_42 (dk_at dksX8_readLawLine_4 12 rfl rfl)
theorem dX8_readLawLine_108 : decode cX8_readLawLine 108 = .ok (.iconst 0, 1) := dk_3 (dk_at dksX8_readLawLine_4 13 rfl rfl)
theorem dX8_readLawLine_109 : decode cX8_readLawLine 109 = .ok (.putfield 234, 3) := dk_181 0 234 (dk_at dksX8_readLawLine_4 14 rfl rfl)
theorem dX8_readLawLine_112 : decode cX8_readLawLine 112 = .ok (.aload_n 0, 1) := dk_42 (dk_at dksX8_readLawLine_4 17 rfl rfl)
theorem dX8_readLawLine_113 : decode cX8_readLawLine 113 = .ok (.ldc_w 262, 3) := dk_19 1 6 (dk_at dksX8_readLawLine_4 18 rfl rfl)
theorem dX8_readLawLine_116 : decode cX8_readLawLine 116 = .ok (.invokevirtual 162, 3) := dk_182 0 162 (dk_at dksX8_readLawLine_4 21 rfl rfl)
theorem dX8_readLawLine_119 : decode cX8_readLawLine 119 = .ok (.ifCond .eq 12, 3) := dk_153 0 12 (dk_at dksX8_readLawLine_5 0 rfl rfl)
theorem dX8_readLawLine_122 : decode cX8_readLawLine 122 = .ok (.aload_n 0, 1) := dk_42 (dk_at dksX8_readLawLine_5 3 rfl rfl)
theorem dX8_readLawLine_123 : decode cX8_readLawLine 123 = .ok (.invokevirtual 237, 3) := dk_182 0 237 (dk_at dksX8_readLawLine_5 4 rfl rfl)
theorem dX8_readLawLine_126 : decode cX8_readLawLine 126 = .ok (.ifCond .ne 5, 3) := dk_154 0 5 (dk_at dksX8_readLawLine_5 7 rfl rfl)
theorem dX8_readLawLine_129 : decode cX8_readLawLine 129 = .ok (.iconst 0, 1) := dk_3 (dk_at dksX8_readLawLine_5 10 rfl rfl)
theorem dX8_readLawLine_130 : decode cX8_readLawLine 130 = .ok (.ireturn, 1) := dk_172 (dk_at dksX8_readLawLine_5 11 rfl rfl)
theorem dX8_readLawLine_131 : decode cX8_readLawLine 131 = .ok (.aload_n 0, 1) := dk_42 (dk_at dksX8_readLawLine_5 12 rfl rfl)
theorem dX8_readLawLine_132 : decode cX8_readLawLine 132 = .ok (.getfield 13, 3) := dk_180 0 13 (dk_at dksX8_readLawLine_5 13 rfl rfl)
theorem dX8_readLawLine_135 : decode cX8_readLawLine 135 = .ok (.iload_n 2, 1) := dk_28 (dk_at dksX8_readLawLine_5 16 rfl rfl)
theorem dX8_readLawLine_136 : decode cX8_readLawLine 136 = .ok (.iconst 3, 1) := dk_6 (dk_at dksX8_readLawLine_5 17 rfl rfl)
theorem dX8_readLawLine_137 : decode cX8_readLawLine 137 = .ok (.iadd, 1) := dk_96 (dk_at dksX8_readLawLine_5 18 rfl rfl)
theorem dX8_readLawLine_138 : decode cX8_readLawLine 138 = .ok (.aload_n 0, 1) := dk_42 (dk_at dksX8_readLawLine_5 19 rfl rfl)
theorem dX8_readLawLine_139 : decode cX8_readLawLine 139 = .ok (.getfield 202, 3) := dk_180 0 202 (dk_at dksX8_readLawLine_5 20 rfl rfl)
theorem dX8_readLawLine_142 : decode cX8_readLawLine 142 = .ok (.iastore, 1) := dk_79 (dk_at dksX8_readLawLine_5 23 rfl rfl)
theorem dX8_readLawLine_143 : decode cX8_readLawLine 143 = .ok (.iconst 1, 1) := dk_4 (dk_at dksX8_readLawLine_6 0 rfl rfl)
theorem dX8_readLawLine_144 : decode cX8_readLawLine 144 = .ok (.ireturn, 1) := dk_172 (dk_at dksX8_readLawLine_6 1 rfl rfl)
abbrev cX8_readCond : ByteArray := prog_19_method_50_code
def yX8_readCond : MethodName := ⟨RX8, "readCond", "()Z"⟩
def dkwX8_readCond_1 : List UInt8 := [154, 0, 5, 3, 172, 42, 16, 16, 3, 182, 0, 220, 167, 255, 230, 4, 172]
abbrev dktX8_readCond_1 : List UInt8 := dkwX8_readCond_1 ++ []
def dkwX8_readCond_0 : List UInt8 := [42, 182, 0, 253, 154, 0, 5, 3, 172, 42, 19, 1, 0, 182, 0, 162, 153, 0, 22, 42, 182, 0, 253]
abbrev dktX8_readCond_0 : List UInt8 := dkwX8_readCond_0 ++ dktX8_readCond_1
theorem dksX8_readCond_0 : cX8_readCond.data.toList.drop 0 = dktX8_readCond_0 := by decide +kernel
theorem dksX8_readCond_1 : cX8_readCond.data.toList.drop 23 = dktX8_readCond_1 := dk_seg dksX8_readCond_0 23 rfl rfl
theorem dX8_readCond_0 : decode cX8_readCond 0 = .ok (.aload_n 0, 1) := dk_42 (dk_at dksX8_readCond_0 0 rfl rfl)
theorem dX8_readCond_1 : decode cX8_readCond 1 = .ok (.invokevirtual 253, 3) := dk_182 0 253 (dk_at dksX8_readCond_0 1 rfl rfl)
theorem dX8_readCond_4 : decode cX8_readCond 4 = .ok (.ifCond .ne 5, 3) := dk_154 0 5 (dk_at dksX8_readCond_0 4 rfl rfl)
theorem dX8_readCond_7 : decode cX8_readCond 7 = .ok (.iconst 0, 1) := dk_3 (dk_at dksX8_readCond_0 7 rfl rfl)
theorem dX8_readCond_8 : decode cX8_readCond 8 = .ok (.ireturn, 1) := dk_172 (dk_at dksX8_readCond_0 8 rfl rfl)
theorem dX8_readCond_9 : decode cX8_readCond 9 = .ok (.aload_n 0, 1) := dk_42 (dk_at dksX8_readCond_0 9 rfl rfl)
theorem dX8_readCond_10 : decode cX8_readCond 10 = .ok (.ldc_w 256, 3) := dk_19 1 0 (dk_at dksX8_readCond_0 10 rfl rfl)
theorem dX8_readCond_13 : decode cX8_readCond 13 = .ok (.invokevirtual 162, 3) := dk_182 0 162 (dk_at dksX8_readCond_0 13 rfl rfl)
theorem dX8_readCond_16 : decode cX8_readCond 16 = .ok (.ifCond .eq 22, 3) := dk_153 0 22 (dk_at dksX8_readCond_0 16 rfl rfl)
theorem dX8_readCond_19 : decode cX8_readCond 19 = .ok (.aload_n 0, 1) := dk_42 (dk_at dksX8_readCond_0 19 rfl rfl)
theorem dX8_readCond_20 : decode cX8_readCond 20 = .ok (.invokevirtual 253, 3) := dk_182 0 253 (dk_at dksX8_readCond_0 20 rfl rfl)
theorem dX8_readCond_23 : decode cX8_readCond 23 = .ok (.ifCond .ne 5, 3) := dk_154 0 5 (dk_at dksX8_readCond_1 0 rfl rfl)
theorem dX8_readCond_26 : decode cX8_readCond 26 = .ok (.iconst 0, 1) := dk_3 (dk_at dksX8_readCond_1 3 rfl rfl)
theorem dX8_readCond_27 : decode cX8_readCond 27 = .ok (.ireturn, 1) := dk_172 (dk_at dksX8_readCond_1 4 rfl rfl)
theorem dX8_readCond_28 : decode cX8_readCond 28 = .ok (.aload_n 0, 1) := dk_42 (dk_at dksX8_readCond_1 5 rfl rfl)
theorem dX8_readCond_29 : decode cX8_readCond 29 = .ok (.bipush 16, 2) := dk_16 16 (dk_at dksX8_readCond_1 6 rfl rfl)
theorem dX8_readCond_31 : decode cX8_readCond 31 = .ok (.iconst 0, 1) := dk_3 (dk_at dksX8_readCond_1 8 rfl rfl)
theorem dX8_readCond_32 : decode cX8_readCond 32 = .ok (.invokevirtual 220, 3) := dk_182 0 220 (dk_at dksX8_readCond_1 9 rfl rfl)
theorem dX8_readCond_35 : decode cX8_readCond 35 = .ok (.goto (-26), 3) := dk_167 255 230 (dk_at dksX8_readCond_1 12 rfl rfl)
theorem dX8_readCond_38 : decode cX8_readCond 38 = .ok (.iconst 1, 1) := dk_4 (dk_at dksX8_readCond_1 15 rfl rfl)
theorem dX8_readCond_39 : decode cX8_readCond 39 = .ok (.ireturn, 1) := dk_172 (dk_at dksX8_readCond_1 16 rfl rfl)
abbrev cX8_readAllOf : ByteArray := prog_19_method_49_code
def yX8_readAllOf : MethodName := ⟨RX8, "readAllOf", "()Z"⟩
def dkwX8_readAllOf_1 : List UInt8 := [154, 0, 5, 3, 172, 42, 16, 15, 3, 182, 0, 220, 167, 255, 231, 4, 172]
abbrev dktX8_readAllOf_1 : List UInt8 := dkwX8_readAllOf_1 ++ []
def dkwX8_readAllOf_0 : List UInt8 := [42, 182, 0, 242, 154, 0, 5, 3, 172, 42, 18, 251, 182, 0, 162, 153, 0, 22, 42, 182, 0, 242]
abbrev dktX8_readAllOf_0 : List UInt8 := dkwX8_readAllOf_0 ++ dktX8_readAllOf_1
theorem dksX8_readAllOf_0 : cX8_readAllOf.data.toList.drop 0 = dktX8_readAllOf_0 := by decide +kernel
theorem dksX8_readAllOf_1 : cX8_readAllOf.data.toList.drop 22 = dktX8_readAllOf_1 := dk_seg dksX8_readAllOf_0 22 rfl rfl
theorem dX8_readAllOf_0 : decode cX8_readAllOf 0 = .ok (.aload_n 0, 1) := dk_42 (dk_at dksX8_readAllOf_0 0 rfl rfl)
theorem dX8_readAllOf_1 : decode cX8_readAllOf 1 = .ok (.invokevirtual 242, 3) := dk_182 0 242 (dk_at dksX8_readAllOf_0 1 rfl rfl)
theorem dX8_readAllOf_4 : decode cX8_readAllOf 4 = .ok (.ifCond .ne 5, 3) := dk_154 0 5 (dk_at dksX8_readAllOf_0 4 rfl rfl)
theorem dX8_readAllOf_7 : decode cX8_readAllOf 7 = .ok (.iconst 0, 1) := dk_3 (dk_at dksX8_readAllOf_0 7 rfl rfl)
theorem dX8_readAllOf_8 : decode cX8_readAllOf 8 = .ok (.ireturn, 1) := dk_172 (dk_at dksX8_readAllOf_0 8 rfl rfl)
theorem dX8_readAllOf_9 : decode cX8_readAllOf 9 = .ok (.aload_n 0, 1) := dk_42 (dk_at dksX8_readAllOf_0 9 rfl rfl)
theorem dX8_readAllOf_10 : decode cX8_readAllOf 10 = .ok (.ldc 251, 2) := dk_18 251 (dk_at dksX8_readAllOf_0 10 rfl rfl)
theorem dX8_readAllOf_12 : decode cX8_readAllOf 12 = .ok (.invokevirtual 162, 3) := dk_182 0 162 (dk_at dksX8_readAllOf_0 12 rfl rfl)
theorem dX8_readAllOf_15 : decode cX8_readAllOf 15 = .ok (.ifCond .eq 22, 3) := dk_153 0 22 (dk_at dksX8_readAllOf_0 15 rfl rfl)
theorem dX8_readAllOf_18 : decode cX8_readAllOf 18 = .ok (.aload_n 0, 1) := dk_42 (dk_at dksX8_readAllOf_0 18 rfl rfl)
theorem dX8_readAllOf_19 : decode cX8_readAllOf 19 = .ok (.invokevirtual 242, 3) := dk_182 0 242 (dk_at dksX8_readAllOf_0 19 rfl rfl)
theorem dX8_readAllOf_22 : decode cX8_readAllOf 22 = .ok (.ifCond .ne 5, 3) := dk_154 0 5 (dk_at dksX8_readAllOf_1 0 rfl rfl)
theorem dX8_readAllOf_25 : decode cX8_readAllOf 25 = .ok (.iconst 0, 1) := dk_3 (dk_at dksX8_readAllOf_1 3 rfl rfl)
theorem dX8_readAllOf_26 : decode cX8_readAllOf 26 = .ok (.ireturn, 1) := dk_172 (dk_at dksX8_readAllOf_1 4 rfl rfl)
theorem dX8_readAllOf_27 : decode cX8_readAllOf 27 = .ok (.aload_n 0, 1) := dk_42 (dk_at dksX8_readAllOf_1 5 rfl rfl)
theorem dX8_readAllOf_28 : decode cX8_readAllOf 28 = .ok (.bipush 15, 2) := dk_16 15 (dk_at dksX8_readAllOf_1 6 rfl rfl)
theorem dX8_readAllOf_30 : decode cX8_readAllOf 30 = .ok (.iconst 0, 1) := dk_3 (dk_at dksX8_readAllOf_1 8 rfl rfl)
theorem dX8_readAllOf_31 : decode cX8_readAllOf 31 = .ok (.invokevirtual 220, 3) := dk_182 0 220 (dk_at dksX8_readAllOf_1 9 rfl rfl)
theorem dX8_readAllOf_34 : decode cX8_readAllOf 34 = .ok (.goto (-25), 3) := dk_167 255 231 (dk_at dksX8_readAllOf_1 12 rfl rfl)
theorem dX8_readAllOf_37 : decode cX8_readAllOf 37 = .ok (.iconst 1, 1) := dk_4 (dk_at dksX8_readAllOf_1 15 rfl rfl)
theorem dX8_readAllOf_38 : decode cX8_readAllOf 38 = .ok (.ireturn, 1) := dk_172 (dk_at dksX8_readAllOf_1 16 rfl rfl)
abbrev cX8_readAtom : ByteArray := prog_19_method_48_code
def yX8_readAtom : MethodName := ⟨RX8, "readAtom", "()Z"⟩
def dkwX8_readAtom_7 : List UInt8 := [153, 0, 8, 16, 12, 167, 0, 5, 16, 13, 3, 182, 0, 220, 4, 172]
abbrev dktX8_readAtom_7 : List UInt8 := dkwX8_readAtom_7 ++ []
def dkwX8_readAtom_6 : List UInt8 := [27, 154, 0, 12, 42, 16, 62, 182, 0, 227, 153, 0, 10, 42, 182, 0, 248, 154, 0, 5, 3, 172, 42, 27]
abbrev dktX8_readAtom_6 : List UInt8 := dkwX8_readAtom_6 ++ dktX8_readAtom_7
def dkwX8_readAtom_5 : List UInt8 := [182, 0, 245, 153, 0, 5, 4, 172, 42, 182, 0, 248, 154, 0, 5, 3, 172, 42, 16, 60, 182, 0, 227, 60]
abbrev dktX8_readAtom_5 : List UInt8 := dkwX8_readAtom_5 ++ dktX8_readAtom_6
def dkwX8_readAtom_4 : List UInt8 := [3, 172, 42, 89, 180, 0, 234, 4, 100, 181, 0, 234, 42, 16, 14, 3, 182, 0, 220, 4, 172, 42]
abbrev dktX8_readAtom_4 : List UInt8 := dkwX8_readAtom_4 ++ dktX8_readAtom_5
def dkwX8_readAtom_3 : List UInt8 := [16, 6, 160, 0, 5, 3, 172, 42, 89, 180, 0, 234, 4, 96, 181, 0, 234, 42, 182, 0, 242, 154, 0, 5]
abbrev dktX8_readAtom_3 : List UInt8 := dkwX8_readAtom_3 ++ dktX8_readAtom_4
def dkwX8_readAtom_2 : List UInt8 := [181, 0, 234, 42, 16, 41, 182, 0, 227, 172, 42, 18, 240, 182, 0, 162, 153, 0, 52, 42, 180, 0, 234]
abbrev dktX8_readAtom_2 : List UInt8 := dkwX8_readAtom_2 ++ dktX8_readAtom_3
def dkwX8_readAtom_1 : List UInt8 := [180, 0, 234, 4, 96, 181, 0, 234, 42, 182, 0, 237, 154, 0, 5, 3, 172, 42, 89, 180, 0, 234, 4, 100]
abbrev dktX8_readAtom_1 : List UInt8 := dkwX8_readAtom_1 ++ dktX8_readAtom_2
def dkwX8_readAtom_0 : List UInt8 := [42, 16, 40, 182, 0, 227, 153, 0, 50, 42, 180, 0, 234, 16, 6, 160, 0, 5, 3, 172, 42, 89]
abbrev dktX8_readAtom_0 : List UInt8 := dkwX8_readAtom_0 ++ dktX8_readAtom_1
theorem dksX8_readAtom_0 : cX8_readAtom.data.toList.drop 0 = dktX8_readAtom_0 := by decide +kernel
theorem dksX8_readAtom_1 : cX8_readAtom.data.toList.drop 22 = dktX8_readAtom_1 := dk_seg dksX8_readAtom_0 22 rfl rfl
theorem dksX8_readAtom_2 : cX8_readAtom.data.toList.drop 46 = dktX8_readAtom_2 := dk_seg dksX8_readAtom_1 24 rfl rfl
theorem dksX8_readAtom_3 : cX8_readAtom.data.toList.drop 69 = dktX8_readAtom_3 := dk_seg dksX8_readAtom_2 23 rfl rfl
theorem dksX8_readAtom_4 : cX8_readAtom.data.toList.drop 93 = dktX8_readAtom_4 := dk_seg dksX8_readAtom_3 24 rfl rfl
theorem dksX8_readAtom_5 : cX8_readAtom.data.toList.drop 115 = dktX8_readAtom_5 := dk_seg dksX8_readAtom_4 22 rfl rfl
theorem dksX8_readAtom_6 : cX8_readAtom.data.toList.drop 139 = dktX8_readAtom_6 := dk_seg dksX8_readAtom_5 24 rfl rfl
theorem dksX8_readAtom_7 : cX8_readAtom.data.toList.drop 163 = dktX8_readAtom_7 := dk_seg dksX8_readAtom_6 24 rfl rfl
theorem dX8_readAtom_0 : decode cX8_readAtom 0 = .ok (.aload_n 0, 1) := dk_42 (dk_at dksX8_readAtom_0 0 rfl rfl)
theorem dX8_readAtom_1 : decode cX8_readAtom 1 = .ok (.bipush 40, 2) := dk_16 40 (dk_at dksX8_readAtom_0 1 rfl rfl)
theorem dX8_readAtom_3 : decode cX8_readAtom 3 = .ok (.invokevirtual 227, 3) := dk_182 0 227 (dk_at dksX8_readAtom_0 3 rfl rfl)
theorem dX8_readAtom_6 : decode cX8_readAtom 6 = .ok (.ifCond .eq 50, 3) := dk_153 0 50 (dk_at dksX8_readAtom_0 6 rfl rfl)
theorem dX8_readAtom_9 : decode cX8_readAtom 9 = .ok (.aload_n 0, 1) := dk_42 (dk_at dksX8_readAtom_0 9 rfl rfl)
theorem dX8_readAtom_10 : decode cX8_readAtom 10 = .ok (.getfield 234, 3) := dk_180 0 234 (dk_at dksX8_readAtom_0 10 rfl rfl)
theorem dX8_readAtom_13 : decode cX8_readAtom 13 = .ok (.bipush 6, 2) := dk_16 6 (dk_at dksX8_readAtom_0 13 rfl rfl)
theorem dX8_readAtom_15 : decode cX8_readAtom 15 = .ok (.if_icmp .ne 5, 3) := dk_160 0 5 (dk_at dksX8_readAtom_0 15 rfl rfl)
theorem dX8_readAtom_18 : decode cX8_readAtom 18 = .ok (.iconst 0, 1) := dk_3 (dk_at dksX8_readAtom_0 18 rfl rfl)
theorem dX8_readAtom_19 : decode cX8_readAtom 19 = .ok (.ireturn, 1) := dk_172 (dk_at dksX8_readAtom_0 19 rfl rfl)
theorem dX8_readAtom_20 : decode cX8_readAtom 20 = .ok (.aload_n 0, 1) := dk_42 (dk_at dksX8_readAtom_0 20 rfl rfl)
theorem dX8_readAtom_21 : decode cX8_readAtom 21 = .ok (.dup, 1) := dk_89 (dk_at dksX8_readAtom_0 21 rfl rfl)
theorem dX8_readAtom_22 : decode cX8_readAtom 22 = .ok (.getfield 234, 3) := dk_180 0 234 (dk_at dksX8_readAtom_1 0 rfl rfl)
theorem dX8_readAtom_25 : decode cX8_readAtom 25 = .ok (.iconst 1, 1) := dk_4 (dk_at dksX8_readAtom_1 3 rfl rfl)
theorem dX8_readAtom_26 : decode cX8_readAtom 26 = .ok (.iadd, 1) := dk_96 (dk_at dksX8_readAtom_1 4 rfl rfl)
theorem dX8_readAtom_27 : decode cX8_readAtom 27 = .ok (.putfield 234, 3) := dk_181 0 234 (dk_at dksX8_readAtom_1 5 rfl rfl)
theorem dX8_readAtom_30 : decode cX8_readAtom 30 = .ok (.aload_n 0, 1) := dk_42 (dk_at dksX8_readAtom_1 8 rfl rfl)
theorem dX8_readAtom_31 : decode cX8_readAtom 31 = .ok (.invokevirtual 237, 3) := dk_182 0 237 (dk_at dksX8_readAtom_1 9 rfl rfl)
theorem dX8_readAtom_34 : decode cX8_readAtom 34 = .ok (.ifCond .ne 5, 3) := dk_154 0 5 (dk_at dksX8_readAtom_1 12 rfl rfl)
theorem dX8_readAtom_37 : decode cX8_readAtom 37 = .ok (.iconst 0, 1) := dk_3 (dk_at dksX8_readAtom_1 15 rfl rfl)
theorem dX8_readAtom_38 : decode cX8_readAtom 38 = .ok (.ireturn, 1) := dk_172 (dk_at dksX8_readAtom_1 16 rfl rfl)
theorem dX8_readAtom_39 : decode cX8_readAtom 39 = .ok (.aload_n 0, 1) := dk_42 (dk_at dksX8_readAtom_1 17 rfl rfl)
theorem dX8_readAtom_40 : decode cX8_readAtom 40 = .ok (.dup, 1) := dk_89 (dk_at dksX8_readAtom_1 18 rfl rfl)
theorem dX8_readAtom_41 : decode cX8_readAtom 41 = .ok (.getfield 234, 3) := dk_180 0 234 (dk_at dksX8_readAtom_1 19 rfl rfl)
theorem dX8_readAtom_44 : decode cX8_readAtom 44 = .ok (.iconst 1, 1) := dk_4 (dk_at dksX8_readAtom_1 22 rfl rfl)
theorem dX8_readAtom_45 : decode cX8_readAtom 45 = .ok (.isub, 1) := dk_100 (dk_at dksX8_readAtom_1 23 rfl rfl)
theorem dX8_readAtom_46 : decode cX8_readAtom 46 = .ok (.putfield 234, 3) := dk_181 0 234 (dk_at dksX8_readAtom_2 0 rfl rfl)
theorem dX8_readAtom_49 : decode cX8_readAtom 49 = .ok (.aload_n 0, 1) := dk_42 (dk_at dksX8_readAtom_2 3 rfl rfl)
theorem dX8_readAtom_50 : decode cX8_readAtom 50 = .ok (.bipush 41, 2) := dk_16 41 (dk_at dksX8_readAtom_2 4 rfl rfl)
theorem dX8_readAtom_52 : decode cX8_readAtom 52 = .ok (.invokevirtual 227, 3) := dk_182 0 227 (dk_at dksX8_readAtom_2 6 rfl rfl)
theorem dX8_readAtom_55 : decode cX8_readAtom 55 = .ok (.ireturn, 1) := dk_172 (dk_at dksX8_readAtom_2 9 rfl rfl)
theorem dX8_readAtom_56 : decode cX8_readAtom 56 = .ok (.aload_n 0, 1) := dk_42 (dk_at dksX8_readAtom_2 10 rfl rfl)
theorem dX8_readAtom_57 : decode cX8_readAtom 57 = .ok (.ldc 240, 2) := dk_18 240 (dk_at dksX8_readAtom_2 11 rfl rfl)
theorem dX8_readAtom_59 : decode cX8_readAtom 59 = .ok (.invokevirtual 162, 3) := dk_182 0 162 (dk_at dksX8_readAtom_2 13 rfl rfl)
theorem dX8_readAtom_62 : decode cX8_readAtom 62 = .ok (.ifCond .eq 52, 3) := dk_153 0 52 (dk_at dksX8_readAtom_2 16 rfl rfl)
theorem dX8_readAtom_65 : decode cX8_readAtom 65 = .ok (.aload_n 0, 1) := dk_42 (dk_at dksX8_readAtom_2 19 rfl rfl)
theorem dX8_readAtom_66 : decode cX8_readAtom 66 = .ok (.getfield 234, 3) := dk_180 0 234 (dk_at dksX8_readAtom_2 20 rfl rfl)
theorem dX8_readAtom_69 : decode cX8_readAtom 69 = .ok (.bipush 6, 2) := dk_16 6 (dk_at dksX8_readAtom_3 0 rfl rfl)
theorem dX8_readAtom_71 : decode cX8_readAtom 71 = .ok (.if_icmp .ne 5, 3) := dk_160 0 5 (dk_at dksX8_readAtom_3 2 rfl rfl)
theorem dX8_readAtom_74 : decode cX8_readAtom 74 = .ok (.iconst 0, 1) := dk_3 (dk_at dksX8_readAtom_3 5 rfl rfl)
theorem dX8_readAtom_75 : decode cX8_readAtom 75 = .ok (.ireturn, 1) := dk_172 (dk_at dksX8_readAtom_3 6 rfl rfl)
theorem dX8_readAtom_76 : decode cX8_readAtom 76 = .ok (.aload_n 0, 1) := dk_42 (dk_at dksX8_readAtom_3 7 rfl rfl)
theorem dX8_readAtom_77 : decode cX8_readAtom 77 = .ok (.dup, 1) := dk_89 (dk_at dksX8_readAtom_3 8 rfl rfl)
theorem dX8_readAtom_78 : decode cX8_readAtom 78 = .ok (.getfield 234, 3) := dk_180 0 234 (dk_at dksX8_readAtom_3 9 rfl rfl)
theorem dX8_readAtom_81 : decode cX8_readAtom 81 = .ok (.iconst 1, 1) := dk_4 (dk_at dksX8_readAtom_3 12 rfl rfl)
theorem dX8_readAtom_82 : decode cX8_readAtom 82 = .ok (.iadd, 1) := dk_96 (dk_at dksX8_readAtom_3 13 rfl rfl)
theorem dX8_readAtom_83 : decode cX8_readAtom 83 = .ok (.putfield 234, 3) := dk_181 0 234 (dk_at dksX8_readAtom_3 14 rfl rfl)
theorem dX8_readAtom_86 : decode cX8_readAtom 86 = .ok (.aload_n 0, 1) := dk_42 (dk_at dksX8_readAtom_3 17 rfl rfl)
theorem dX8_readAtom_87 : decode cX8_readAtom 87 = .ok (.invokevirtual 242, 3) := dk_182 0 242 (dk_at dksX8_readAtom_3 18 rfl rfl)
theorem dX8_readAtom_90 : decode cX8_readAtom 90 = .ok (.ifCond .ne 5, 3) := dk_154 0 5 (dk_at dksX8_readAtom_3 21 rfl rfl)
theorem dX8_readAtom_93 : decode cX8_readAtom 93 = .ok (.iconst 0, 1) := dk_3 (dk_at dksX8_readAtom_4 0 rfl rfl)
theorem dX8_readAtom_94 : decode cX8_readAtom 94 = .ok (.ireturn, 1) := dk_172 (dk_at dksX8_readAtom_4 1 rfl rfl)
theorem dX8_readAtom_95 : decode cX8_readAtom 95 = .ok (.aload_n 0, 1) := dk_42 (dk_at dksX8_readAtom_4 2 rfl rfl)
theorem dX8_readAtom_96 : decode cX8_readAtom 96 = .ok (.dup, 1) := dk_89 (dk_at dksX8_readAtom_4 3 rfl rfl)
theorem dX8_readAtom_97 : decode cX8_readAtom 97 = .ok (.getfield 234, 3) := dk_180 0 234 (dk_at dksX8_readAtom_4 4 rfl rfl)
theorem dX8_readAtom_100 : decode cX8_readAtom 100 = .ok (.iconst 1, 1) := dk_4 (dk_at dksX8_readAtom_4 7 rfl rfl)
theorem dX8_readAtom_101 : decode cX8_readAtom 101 = .ok (.isub, 1) := dk_100 (dk_at dksX8_readAtom_4 8 rfl rfl)
theorem dX8_readAtom_102 : decode cX8_readAtom 102 = .ok (.putfield 234, 3) := dk_181 0 234 (dk_at dksX8_readAtom_4 9 rfl rfl)
theorem dX8_readAtom_105 : decode cX8_readAtom 105 = .ok (.aload_n 0, 1) := dk_42 (dk_at dksX8_readAtom_4 12 rfl rfl)
theorem dX8_readAtom_106 : decode cX8_readAtom 106 = .ok (.bipush 14, 2) := dk_16 14 (dk_at dksX8_readAtom_4 13 rfl rfl)
theorem dX8_readAtom_108 : decode cX8_readAtom 108 = .ok (.iconst 0, 1) := dk_3 (dk_at dksX8_readAtom_4 15 rfl rfl)
theorem dX8_readAtom_109 : decode cX8_readAtom 109 = .ok (.invokevirtual 220, 3) := dk_182 0 220 (dk_at dksX8_readAtom_4 16 rfl rfl)
theorem dX8_readAtom_112 : decode cX8_readAtom 112 = .ok (.iconst 1, 1) := dk_4 (dk_at dksX8_readAtom_4 19 rfl rfl)
theorem dX8_readAtom_113 : decode cX8_readAtom 113 = .ok (.ireturn, 1) := dk_172 (dk_at dksX8_readAtom_4 20 rfl rfl)
theorem dX8_readAtom_114 : decode cX8_readAtom 114 = .ok (.aload_n 0, 1) := dk_42 (dk_at dksX8_readAtom_4 21 rfl rfl)
theorem dX8_readAtom_115 : decode cX8_readAtom 115 = .ok (.invokevirtual 245, 3) := dk_182 0 245 (dk_at dksX8_readAtom_5 0 rfl rfl)
theorem dX8_readAtom_118 : decode cX8_readAtom 118 = .ok (.ifCond .eq 5, 3) := dk_153 0 5 (dk_at dksX8_readAtom_5 3 rfl rfl)
theorem dX8_readAtom_121 : decode cX8_readAtom 121 = .ok (.iconst 1, 1) := dk_4 (dk_at dksX8_readAtom_5 6 rfl rfl)
theorem dX8_readAtom_122 : decode cX8_readAtom 122 = .ok (.ireturn, 1) := dk_172 (dk_at dksX8_readAtom_5 7 rfl rfl)
theorem dX8_readAtom_123 : decode cX8_readAtom 123 = .ok (.aload_n 0, 1) := dk_42 (dk_at dksX8_readAtom_5 8 rfl rfl)
theorem dX8_readAtom_124 : decode cX8_readAtom 124 = .ok (.invokevirtual 248, 3) := dk_182 0 248 (dk_at dksX8_readAtom_5 9 rfl rfl)
theorem dX8_readAtom_127 : decode cX8_readAtom 127 = .ok (.ifCond .ne 5, 3) := dk_154 0 5 (dk_at dksX8_readAtom_5 12 rfl rfl)
theorem dX8_readAtom_130 : decode cX8_readAtom 130 = .ok (.iconst 0, 1) := dk_3 (dk_at dksX8_readAtom_5 15 rfl rfl)
theorem dX8_readAtom_131 : decode cX8_readAtom 131 = .ok (.ireturn, 1) := dk_172 (dk_at dksX8_readAtom_5 16 rfl rfl)
theorem dX8_readAtom_132 : decode cX8_readAtom 132 = .ok (.aload_n 0, 1) := dk_42 (dk_at dksX8_readAtom_5 17 rfl rfl)
theorem dX8_readAtom_133 : decode cX8_readAtom 133 = .ok (.bipush 60, 2) := dk_16 60 (dk_at dksX8_readAtom_5 18 rfl rfl)
theorem dX8_readAtom_135 : decode cX8_readAtom 135 = .ok (.invokevirtual 227, 3) := dk_182 0 227 (dk_at dksX8_readAtom_5 20 rfl rfl)
theorem dX8_readAtom_138 : decode cX8_readAtom 138 = .ok (.istore_n 1, 1) := dk_60 (dk_at dksX8_readAtom_5 23 rfl rfl)
theorem dX8_readAtom_139 : decode cX8_readAtom 139 = .ok (.iload_n 1, 1) := dk_27 (dk_at dksX8_readAtom_6 0 rfl rfl)
theorem dX8_readAtom_140 : decode cX8_readAtom 140 = .ok (.ifCond .ne 12, 3) := dk_154 0 12 (dk_at dksX8_readAtom_6 1 rfl rfl)
theorem dX8_readAtom_143 : decode cX8_readAtom 143 = .ok (.aload_n 0, 1) := dk_42 (dk_at dksX8_readAtom_6 4 rfl rfl)
theorem dX8_readAtom_144 : decode cX8_readAtom 144 = .ok (.bipush 62, 2) := dk_16 62 (dk_at dksX8_readAtom_6 5 rfl rfl)
theorem dX8_readAtom_146 : decode cX8_readAtom 146 = .ok (.invokevirtual 227, 3) := dk_182 0 227 (dk_at dksX8_readAtom_6 7 rfl rfl)
theorem dX8_readAtom_149 : decode cX8_readAtom 149 = .ok (.ifCond .eq 10, 3) := dk_153 0 10 (dk_at dksX8_readAtom_6 10 rfl rfl)
theorem dX8_readAtom_152 : decode cX8_readAtom 152 = .ok (.aload_n 0, 1) := dk_42 (dk_at dksX8_readAtom_6 13 rfl rfl)
theorem dX8_readAtom_153 : decode cX8_readAtom 153 = .ok (.invokevirtual 248, 3) := dk_182 0 248 (dk_at dksX8_readAtom_6 14 rfl rfl)
theorem dX8_readAtom_156 : decode cX8_readAtom 156 = .ok (.ifCond .ne 5, 3) := dk_154 0 5 (dk_at dksX8_readAtom_6 17 rfl rfl)
theorem dX8_readAtom_159 : decode cX8_readAtom 159 = .ok (.iconst 0, 1) := dk_3 (dk_at dksX8_readAtom_6 20 rfl rfl)
theorem dX8_readAtom_160 : decode cX8_readAtom 160 = .ok (.ireturn, 1) := dk_172 (dk_at dksX8_readAtom_6 21 rfl rfl)
theorem dX8_readAtom_161 : decode cX8_readAtom 161 = .ok (.aload_n 0, 1) := dk_42 (dk_at dksX8_readAtom_6 22 rfl rfl)
theorem dX8_readAtom_162 : decode cX8_readAtom 162 = .ok (.iload_n 1, 1) := dk_27 (dk_at dksX8_readAtom_6 23 rfl rfl)
theorem dX8_readAtom_163 : decode cX8_readAtom 163 = .ok (.ifCond .eq 8, 3) := dk_153 0 8 (dk_at dksX8_readAtom_7 0 rfl rfl)
theorem dX8_readAtom_166 : decode cX8_readAtom 166 = .ok (.bipush 12, 2) := dk_16 12 (dk_at dksX8_readAtom_7 3 rfl rfl)
theorem dX8_readAtom_168 : decode cX8_readAtom 168 = .ok (.goto 5, 3) := dk_167 0 5 (dk_at dksX8_readAtom_7 5 rfl rfl)
theorem dX8_readAtom_171 : decode cX8_readAtom 171 = .ok (.bipush 13, 2) := dk_16 13 (dk_at dksX8_readAtom_7 8 rfl rfl)
theorem dX8_readAtom_173 : decode cX8_readAtom 173 = .ok (.iconst 0, 1) := dk_3 (dk_at dksX8_readAtom_7 10 rfl rfl)
theorem dX8_readAtom_174 : decode cX8_readAtom 174 = .ok (.invokevirtual 220, 3) := dk_182 0 220 (dk_at dksX8_readAtom_7 11 rfl rfl)
theorem dX8_readAtom_177 : decode cX8_readAtom 177 = .ok (.iconst 1, 1) := dk_4 (dk_at dksX8_readAtom_7 14 rfl rfl)
theorem dX8_readAtom_178 : decode cX8_readAtom 178 = .ok (.ireturn, 1) := dk_172 (dk_at dksX8_readAtom_7 15 rfl rfl)
abbrev cX8_sign : ByteArray := prog_19_method_29_code
def yX8_sign : MethodName := ⟨RX8, "sign", "(I)Z"⟩
def dkwX8_sign_1 : List UInt8 := [181, 0, 96, 4, 172]
abbrev dktX8_sign_1 : List UInt8 := dkwX8_sign_1 ++ []
def dkwX8_sign_0 : List UInt8 := [42, 182, 0, 109, 42, 27, 27, 182, 0, 102, 154, 0, 5, 3, 172, 42, 89, 180, 0, 96, 4, 96]
abbrev dktX8_sign_0 : List UInt8 := dkwX8_sign_0 ++ dktX8_sign_1
theorem dksX8_sign_0 : cX8_sign.data.toList.drop 0 = dktX8_sign_0 := by decide +kernel
theorem dksX8_sign_1 : cX8_sign.data.toList.drop 22 = dktX8_sign_1 := dk_seg dksX8_sign_0 22 rfl rfl
theorem dX8_sign_0 : decode cX8_sign 0 = .ok (.aload_n 0, 1) := dk_42 (dk_at dksX8_sign_0 0 rfl rfl)
theorem dX8_sign_1 : decode cX8_sign 1 = .ok (.invokevirtual 109, 3) := dk_182 0 109 (dk_at dksX8_sign_0 1 rfl rfl)
theorem dX8_sign_4 : decode cX8_sign 4 = .ok (.aload_n 0, 1) := dk_42 (dk_at dksX8_sign_0 4 rfl rfl)
theorem dX8_sign_5 : decode cX8_sign 5 = .ok (.iload_n 1, 1) := dk_27 (dk_at dksX8_sign_0 5 rfl rfl)
theorem dX8_sign_6 : decode cX8_sign 6 = .ok (.iload_n 1, 1) := dk_27 (dk_at dksX8_sign_0 6 rfl rfl)
theorem dX8_sign_7 : decode cX8_sign 7 = .ok (.invokevirtual 102, 3) := dk_182 0 102 (dk_at dksX8_sign_0 7 rfl rfl)
theorem dX8_sign_10 : decode cX8_sign 10 = .ok (.ifCond .ne 5, 3) := dk_154 0 5 (dk_at dksX8_sign_0 10 rfl rfl)
theorem dX8_sign_13 : decode cX8_sign 13 = .ok (.iconst 0, 1) := dk_3 (dk_at dksX8_sign_0 13 rfl rfl)
theorem dX8_sign_14 : decode cX8_sign 14 = .ok (.ireturn, 1) := dk_172 (dk_at dksX8_sign_0 14 rfl rfl)
theorem dX8_sign_15 : decode cX8_sign 15 = .ok (.aload_n 0, 1) := dk_42 (dk_at dksX8_sign_0 15 rfl rfl)
theorem dX8_sign_16 : decode cX8_sign 16 = .ok (.dup, 1) := dk_89 (dk_at dksX8_sign_0 16 rfl rfl)
theorem dX8_sign_17 : decode cX8_sign 17 = .ok (.getfield 96, 3) := dk_180 0 96 (dk_at dksX8_sign_0 17 rfl rfl)
theorem dX8_sign_20 : decode cX8_sign 20 = .ok (.iconst 1, 1) := dk_4 (dk_at dksX8_sign_0 20 rfl rfl)
theorem dX8_sign_21 : decode cX8_sign 21 = .ok (.iadd, 1) := dk_96 (dk_at dksX8_sign_0 21 rfl rfl)
theorem dX8_sign_22 : decode cX8_sign 22 = .ok (.putfield 96, 3) := dk_181 0 96 (dk_at dksX8_sign_1 0 rfl rfl)
theorem dX8_sign_25 : decode cX8_sign 25 = .ok (.iconst 1, 1) := dk_4 (dk_at dksX8_sign_1 3 rfl rfl)
theorem dX8_sign_26 : decode cX8_sign 26 = .ok (.ireturn, 1) := dk_172 (dk_at dksX8_sign_1 4 rfl rfl)
abbrev cX8_emits : ByteArray := prog_19_method_43_code
def yX8_emits : MethodName := ⟨RX8, "emits", "(II)V"⟩
def dkwX8_emits_1 : List UInt8 := [42, 180, 0, 202, 104, 96, 4, 96, 28, 79, 42, 89, 180, 0, 202, 4, 96, 181, 0, 202, 177]
abbrev dktX8_emits_1 : List UInt8 := dkwX8_emits_1 ++ []
def dkwX8_emits_0 : List UInt8 := [42, 180, 0, 13, 17, 4, 242, 5, 42, 180, 0, 202, 104, 96, 27, 79, 42, 180, 0, 13, 17, 4, 242, 5]
abbrev dktX8_emits_0 : List UInt8 := dkwX8_emits_0 ++ dktX8_emits_1
theorem dksX8_emits_0 : cX8_emits.data.toList.drop 0 = dktX8_emits_0 := by decide +kernel
theorem dksX8_emits_1 : cX8_emits.data.toList.drop 24 = dktX8_emits_1 := dk_seg dksX8_emits_0 24 rfl rfl
theorem dX8_emits_0 : decode cX8_emits 0 = .ok (.aload_n 0, 1) := dk_42 (dk_at dksX8_emits_0 0 rfl rfl)
theorem dX8_emits_1 : decode cX8_emits 1 = .ok (.getfield 13, 3) := dk_180 0 13 (dk_at dksX8_emits_0 1 rfl rfl)
theorem dX8_emits_4 : decode cX8_emits 4 = .ok (.sipush 1266, 3) := dk_17 4 242 (dk_at dksX8_emits_0 4 rfl rfl)
theorem dX8_emits_7 : decode cX8_emits 7 = .ok (.iconst 2, 1) := dk_5 (dk_at dksX8_emits_0 7 rfl rfl)
theorem dX8_emits_8 : decode cX8_emits 8 = .ok (.aload_n 0, 1) := dk_42 (dk_at dksX8_emits_0 8 rfl rfl)
theorem dX8_emits_9 : decode cX8_emits 9 = .ok (.getfield 202, 3) := dk_180 0 202 (dk_at dksX8_emits_0 9 rfl rfl)
theorem dX8_emits_12 : decode cX8_emits 12 = .ok (.imul, 1) := dk_104 (dk_at dksX8_emits_0 12 rfl rfl)
theorem dX8_emits_13 : decode cX8_emits 13 = .ok (.iadd, 1) := dk_96 (dk_at dksX8_emits_0 13 rfl rfl)
theorem dX8_emits_14 : decode cX8_emits 14 = .ok (.iload_n 1, 1) := dk_27 (dk_at dksX8_emits_0 14 rfl rfl)
theorem dX8_emits_15 : decode cX8_emits 15 = .ok (.iastore, 1) := dk_79 (dk_at dksX8_emits_0 15 rfl rfl)
theorem dX8_emits_16 : decode cX8_emits 16 = .ok (.aload_n 0, 1) := dk_42 (dk_at dksX8_emits_0 16 rfl rfl)
theorem dX8_emits_17 : decode cX8_emits 17 = .ok (.getfield 13, 3) := dk_180 0 13 (dk_at dksX8_emits_0 17 rfl rfl)
theorem dX8_emits_20 : decode cX8_emits 20 = .ok (.sipush 1266, 3) := dk_17 4 242 (dk_at dksX8_emits_0 20 rfl rfl)
theorem dX8_emits_23 : decode cX8_emits 23 = .ok (.iconst 2, 1) := dk_5 (dk_at dksX8_emits_0 23 rfl rfl)
theorem dX8_emits_24 : decode cX8_emits 24 = .ok (.aload_n 0, 1) := dk_42 (dk_at dksX8_emits_1 0 rfl rfl)
theorem dX8_emits_25 : decode cX8_emits 25 = .ok (.getfield 202, 3) := dk_180 0 202 (dk_at dksX8_emits_1 1 rfl rfl)
theorem dX8_emits_28 : decode cX8_emits 28 = .ok (.imul, 1) := dk_104 (dk_at dksX8_emits_1 4 rfl rfl)
theorem dX8_emits_29 : decode cX8_emits 29 = .ok (.iadd, 1) := dk_96 (dk_at dksX8_emits_1 5 rfl rfl)
theorem dX8_emits_30 : decode cX8_emits 30 = .ok (.iconst 1, 1) := dk_4 (dk_at dksX8_emits_1 6 rfl rfl)
theorem dX8_emits_31 : decode cX8_emits 31 = .ok (.iadd, 1) := dk_96 (dk_at dksX8_emits_1 7 rfl rfl)
theorem dX8_emits_32 : decode cX8_emits 32 = .ok (.iload_n 2, 1) := dk_28 (dk_at dksX8_emits_1 8 rfl rfl)
theorem dX8_emits_33 : decode cX8_emits 33 = .ok (.iastore, 1) := dk_79 (dk_at dksX8_emits_1 9 rfl rfl)
theorem dX8_emits_34 : decode cX8_emits 34 = .ok (.aload_n 0, 1) := dk_42 (dk_at dksX8_emits_1 10 rfl rfl)
theorem dX8_emits_35 : decode cX8_emits 35 = .ok (.dup, 1) := dk_89 (dk_at dksX8_emits_1 11 rfl rfl)
theorem dX8_emits_36 : decode cX8_emits 36 = .ok (.getfield 202, 3) := dk_180 0 202 (dk_at dksX8_emits_1 12 rfl rfl)
theorem dX8_emits_39 : decode cX8_emits 39 = .ok (.iconst 1, 1) := dk_4 (dk_at dksX8_emits_1 15 rfl rfl)
theorem dX8_emits_40 : decode cX8_emits 40 = .ok (.iadd, 1) := dk_96 (dk_at dksX8_emits_1 16 rfl rfl)
theorem dX8_emits_41 : decode cX8_emits 41 = .ok (.putfield 202, 3) := dk_181 0 202 (dk_at dksX8_emits_1 17 rfl rfl)
theorem dX8_emits_44 : decode cX8_emits 44 = .ok (.return_, 1) := dk_177 (dk_at dksX8_emits_1 20 rfl rfl)
abbrev cX8_readTag : ByteArray := prog_19_method_47_code
def yX8_readTag : MethodName := ⟨RX8, "readTag", "()Z"⟩
def dkwX8_readTag_3 : List UInt8 := [155, 0, 7, 4, 167, 0, 4, 3, 172]
abbrev dktX8_readTag_3 : List UInt8 := dkwX8_readTag_3 ++ []
def dkwX8_readTag_2 : List UInt8 := [27, 155, 0, 12, 42, 27, 3, 182, 0, 220, 167, 0, 11, 42, 42, 180, 0, 106, 181, 0, 96, 27]
abbrev dktX8_readTag_2 : List UInt8 := dkwX8_readTag_2 ++ dktX8_readTag_3
def dkwX8_readTag_1 : List UInt8 := [153, 0, 8, 16, 8, 167, 0, 18, 42, 18, 232, 182, 0, 124, 153, 0, 8, 16, 9, 167, 0, 4, 2, 60]
abbrev dktX8_readTag_1 : List UInt8 := dkwX8_readTag_1 ++ dktX8_readTag_2
def dkwX8_readTag_0 : List UInt8 := [42, 182, 0, 121, 42, 18, 160, 182, 0, 124, 153, 0, 8, 16, 7, 167, 0, 32, 42, 18, 230, 182, 0, 124]
abbrev dktX8_readTag_0 : List UInt8 := dkwX8_readTag_0 ++ dktX8_readTag_1
theorem dksX8_readTag_0 : cX8_readTag.data.toList.drop 0 = dktX8_readTag_0 := by decide +kernel
theorem dksX8_readTag_1 : cX8_readTag.data.toList.drop 24 = dktX8_readTag_1 := dk_seg dksX8_readTag_0 24 rfl rfl
theorem dksX8_readTag_2 : cX8_readTag.data.toList.drop 48 = dktX8_readTag_2 := dk_seg dksX8_readTag_1 24 rfl rfl
theorem dksX8_readTag_3 : cX8_readTag.data.toList.drop 70 = dktX8_readTag_3 := dk_seg dksX8_readTag_2 22 rfl rfl
theorem dX8_readTag_0 : decode cX8_readTag 0 = .ok (.aload_n 0, 1) := dk_42 (dk_at dksX8_readTag_0 0 rfl rfl)
theorem dX8_readTag_1 : decode cX8_readTag 1 = .ok (.invokevirtual 121, 3) := dk_182 0 121 (dk_at dksX8_readTag_0 1 rfl rfl)
theorem dX8_readTag_4 : decode cX8_readTag 4 = .ok (.aload_n 0, 1) := dk_42 (dk_at dksX8_readTag_0 4 rfl rfl)
theorem dX8_readTag_5 : decode cX8_readTag 5 = .ok (.ldc 160, 2) := dk_18 160 (dk_at dksX8_readTag_0 5 rfl rfl)
theorem dX8_readTag_7 : decode cX8_readTag 7 = .ok (.invokevirtual 124, 3) := dk_182 0 124 (dk_at dksX8_readTag_0 7 rfl rfl)
theorem dX8_readTag_10 : decode cX8_readTag 10 = .ok (.ifCond .eq 8, 3) := dk_153 0 8 (dk_at dksX8_readTag_0 10 rfl rfl)
theorem dX8_readTag_13 : decode cX8_readTag 13 = .ok (.bipush 7, 2) := dk_16 7 (dk_at dksX8_readTag_0 13 rfl rfl)
theorem dX8_readTag_15 : decode cX8_readTag 15 = .ok (.goto 32, 3) := dk_167 0 32 (dk_at dksX8_readTag_0 15 rfl rfl)
theorem dX8_readTag_18 : decode cX8_readTag 18 = .ok (.aload_n 0, 1) := dk_42 (dk_at dksX8_readTag_0 18 rfl rfl)
theorem dX8_readTag_19 : decode cX8_readTag 19 = .ok (.ldc 230, 2) := dk_18 230 (dk_at dksX8_readTag_0 19 rfl rfl)
theorem dX8_readTag_21 : decode cX8_readTag 21 = .ok (.invokevirtual 124, 3) := dk_182 0 124 (dk_at dksX8_readTag_0 21 rfl rfl)
theorem dX8_readTag_24 : decode cX8_readTag 24 = .ok (.ifCond .eq 8, 3) := dk_153 0 8 (dk_at dksX8_readTag_1 0 rfl rfl)
theorem dX8_readTag_27 : decode cX8_readTag 27 = .ok (.bipush 8, 2) := dk_16 8 (dk_at dksX8_readTag_1 3 rfl rfl)
theorem dX8_readTag_29 : decode cX8_readTag 29 = .ok (.goto 18, 3) := dk_167 0 18 (dk_at dksX8_readTag_1 5 rfl rfl)
theorem dX8_readTag_32 : decode cX8_readTag 32 = .ok (.aload_n 0, 1) := dk_42 (dk_at dksX8_readTag_1 8 rfl rfl)
theorem dX8_readTag_33 : decode cX8_readTag 33 = .ok (.ldc 232, 2) := dk_18 232 (dk_at dksX8_readTag_1 9 rfl rfl)
theorem dX8_readTag_35 : decode cX8_readTag 35 = .ok (.invokevirtual 124, 3) := dk_182 0 124 (dk_at dksX8_readTag_1 11 rfl rfl)
theorem dX8_readTag_38 : decode cX8_readTag 38 = .ok (.ifCond .eq 8, 3) := dk_153 0 8 (dk_at dksX8_readTag_1 14 rfl rfl)
theorem dX8_readTag_41 : decode cX8_readTag 41 = .ok (.bipush 9, 2) := dk_16 9 (dk_at dksX8_readTag_1 17 rfl rfl)
theorem dX8_readTag_43 : decode cX8_readTag 43 = .ok (.goto 4, 3) := dk_167 0 4 (dk_at dksX8_readTag_1 19 rfl rfl)
theorem dX8_readTag_46 : decode cX8_readTag 46 = .ok (.iconst (-1), 1) := dk_2 (dk_at dksX8_readTag_1 22 rfl rfl)
theorem dX8_readTag_47 : decode cX8_readTag 47 = .ok (.istore_n 1, 1) := dk_60 (dk_at dksX8_readTag_1 23 rfl rfl)
theorem dX8_readTag_48 : decode cX8_readTag 48 = .ok (.iload_n 1, 1) := dk_27 (dk_at dksX8_readTag_2 0 rfl rfl)
theorem dX8_readTag_49 : decode cX8_readTag 49 = .ok (.ifCond .lt 12, 3) := dk_155 0 12 (dk_at dksX8_readTag_2 1 rfl rfl)
theorem dX8_readTag_52 : decode cX8_readTag 52 = .ok (.aload_n 0, 1) := dk_42 (dk_at dksX8_readTag_2 4 rfl rfl)
theorem dX8_readTag_53 : decode cX8_readTag 53 = .ok (.iload_n 1, 1) := dk_27 (dk_at dksX8_readTag_2 5 rfl rfl)
theorem dX8_readTag_54 : decode cX8_readTag 54 = .ok (.iconst 0, 1) := dk_3 (dk_at dksX8_readTag_2 6 rfl rfl)
theorem dX8_readTag_55 : decode cX8_readTag 55 = .ok (.invokevirtual 220, 3) := dk_182 0 220 (dk_at dksX8_readTag_2 7 rfl rfl)
theorem dX8_readTag_58 : decode cX8_readTag 58 = .ok (.goto 11, 3) := dk_167 0 11 (dk_at dksX8_readTag_2 10 rfl rfl)
theorem dX8_readTag_61 : decode cX8_readTag 61 = .ok (.aload_n 0, 1) := dk_42 (dk_at dksX8_readTag_2 13 rfl rfl)
theorem dX8_readTag_62 : decode cX8_readTag 62 = .ok (.aload_n 0, 1) := dk_42 (dk_at dksX8_readTag_2 14 rfl rfl)
theorem dX8_readTag_63 : decode cX8_readTag 63 = .ok (.getfield 106, 3) := dk_180 0 106 (dk_at dksX8_readTag_2 15 rfl rfl)
theorem dX8_readTag_66 : decode cX8_readTag 66 = .ok (.putfield 96, 3) := dk_181 0 96 (dk_at dksX8_readTag_2 18 rfl rfl)
theorem dX8_readTag_69 : decode cX8_readTag 69 = .ok (.iload_n 1, 1) := dk_27 (dk_at dksX8_readTag_2 21 rfl rfl)
theorem dX8_readTag_70 : decode cX8_readTag 70 = .ok (.ifCond .lt 7, 3) := dk_155 0 7 (dk_at dksX8_readTag_3 0 rfl rfl)
theorem dX8_readTag_73 : decode cX8_readTag 73 = .ok (.iconst 1, 1) := dk_4 (dk_at dksX8_readTag_3 3 rfl rfl)
theorem dX8_readTag_74 : decode cX8_readTag 74 = .ok (.goto 4, 3) := dk_167 0 4 (dk_at dksX8_readTag_3 4 rfl rfl)
theorem dX8_readTag_77 : decode cX8_readTag 77 = .ok (.iconst 0, 1) := dk_3 (dk_at dksX8_readTag_3 7 rfl rfl)
theorem dX8_readTag_78 : decode cX8_readTag 78 = .ok (.ireturn, 1) := dk_172 (dk_at dksX8_readTag_3 8 rfl rfl)
abbrev cX8_readSum : ByteArray := prog_19_method_46_code
def yX8_readSum : MethodName := ⟨RX8, "readSum", "()Z"⟩
def dkwX8_readSum_1 : List UInt8 := [154, 0, 5, 3, 172, 42, 16, 11, 3, 182, 0, 220, 167, 255, 231, 4, 172]
abbrev dktX8_readSum_1 : List UInt8 := dkwX8_readSum_1 ++ []
def dkwX8_readSum_0 : List UInt8 := [42, 182, 0, 224, 154, 0, 5, 3, 172, 42, 16, 43, 182, 0, 227, 153, 0, 22, 42, 182, 0, 224]
abbrev dktX8_readSum_0 : List UInt8 := dkwX8_readSum_0 ++ dktX8_readSum_1
theorem dksX8_readSum_0 : cX8_readSum.data.toList.drop 0 = dktX8_readSum_0 := by decide +kernel
theorem dksX8_readSum_1 : cX8_readSum.data.toList.drop 22 = dktX8_readSum_1 := dk_seg dksX8_readSum_0 22 rfl rfl
theorem dX8_readSum_0 : decode cX8_readSum 0 = .ok (.aload_n 0, 1) := dk_42 (dk_at dksX8_readSum_0 0 rfl rfl)
theorem dX8_readSum_1 : decode cX8_readSum 1 = .ok (.invokevirtual 224, 3) := dk_182 0 224 (dk_at dksX8_readSum_0 1 rfl rfl)
theorem dX8_readSum_4 : decode cX8_readSum 4 = .ok (.ifCond .ne 5, 3) := dk_154 0 5 (dk_at dksX8_readSum_0 4 rfl rfl)
theorem dX8_readSum_7 : decode cX8_readSum 7 = .ok (.iconst 0, 1) := dk_3 (dk_at dksX8_readSum_0 7 rfl rfl)
theorem dX8_readSum_8 : decode cX8_readSum 8 = .ok (.ireturn, 1) := dk_172 (dk_at dksX8_readSum_0 8 rfl rfl)
theorem dX8_readSum_9 : decode cX8_readSum 9 = .ok (.aload_n 0, 1) := dk_42 (dk_at dksX8_readSum_0 9 rfl rfl)
theorem dX8_readSum_10 : decode cX8_readSum 10 = .ok (.bipush 43, 2) := dk_16 43 (dk_at dksX8_readSum_0 10 rfl rfl)
theorem dX8_readSum_12 : decode cX8_readSum 12 = .ok (.invokevirtual 227, 3) := dk_182 0 227 (dk_at dksX8_readSum_0 12 rfl rfl)
theorem dX8_readSum_15 : decode cX8_readSum 15 = .ok (.ifCond .eq 22, 3) := dk_153 0 22 (dk_at dksX8_readSum_0 15 rfl rfl)
theorem dX8_readSum_18 : decode cX8_readSum 18 = .ok (.aload_n 0, 1) := dk_42 (dk_at dksX8_readSum_0 18 rfl rfl)
theorem dX8_readSum_19 : decode cX8_readSum 19 = .ok (.invokevirtual 224, 3) := dk_182 0 224 (dk_at dksX8_readSum_0 19 rfl rfl)
theorem dX8_readSum_22 : decode cX8_readSum 22 = .ok (.ifCond .ne 5, 3) := dk_154 0 5 (dk_at dksX8_readSum_1 0 rfl rfl)
theorem dX8_readSum_25 : decode cX8_readSum 25 = .ok (.iconst 0, 1) := dk_3 (dk_at dksX8_readSum_1 3 rfl rfl)
theorem dX8_readSum_26 : decode cX8_readSum 26 = .ok (.ireturn, 1) := dk_172 (dk_at dksX8_readSum_1 4 rfl rfl)
theorem dX8_readSum_27 : decode cX8_readSum 27 = .ok (.aload_n 0, 1) := dk_42 (dk_at dksX8_readSum_1 5 rfl rfl)
theorem dX8_readSum_28 : decode cX8_readSum 28 = .ok (.bipush 11, 2) := dk_16 11 (dk_at dksX8_readSum_1 6 rfl rfl)
theorem dX8_readSum_30 : decode cX8_readSum 30 = .ok (.iconst 0, 1) := dk_3 (dk_at dksX8_readSum_1 8 rfl rfl)
theorem dX8_readSum_31 : decode cX8_readSum 31 = .ok (.invokevirtual 220, 3) := dk_182 0 220 (dk_at dksX8_readSum_1 9 rfl rfl)
theorem dX8_readSum_34 : decode cX8_readSum 34 = .ok (.goto (-25), 3) := dk_167 255 231 (dk_at dksX8_readSum_1 12 rfl rfl)
theorem dX8_readSum_37 : decode cX8_readSum 37 = .ok (.iconst 1, 1) := dk_4 (dk_at dksX8_readSum_1 15 rfl rfl)
theorem dX8_readSum_38 : decode cX8_readSum 38 = .ok (.ireturn, 1) := dk_172 (dk_at dksX8_readSum_1 16 rfl rfl)
abbrev cX8_readPart : ByteArray := prog_19_method_45_code
def yX8_readPart : MethodName := ⟨RX8, "readPart", "()Z"⟩
def dkwX8_readPart_3 : List UInt8 := [167, 0, 4, 3, 172]
abbrev dktX8_readPart_3 : List UInt8 := dkwX8_readPart_3 ++ []
def dkwX8_readPart_2 : List UInt8 := [16, 10, 167, 0, 4, 28, 27, 153, 0, 7, 28, 167, 0, 4, 3, 182, 0, 220, 28, 155, 0, 7, 4]
abbrev dktX8_readPart_2 : List UInt8 := dkwX8_readPart_2 ++ dktX8_readPart_3
def dkwX8_readPart_1 : List UInt8 := [153, 0, 14, 42, 3, 17, 3, 231, 182, 0, 128, 167, 0, 7, 42, 182, 0, 217, 61, 42, 27, 153, 0, 8]
abbrev dktX8_readPart_1 : List UInt8 := dkwX8_readPart_1 ++ dktX8_readPart_2
def dkwX8_readPart_0 : List UInt8 := [42, 182, 0, 121, 42, 180, 0, 96, 42, 180, 0, 106, 160, 0, 7, 4, 167, 0, 4, 3, 60, 27]
abbrev dktX8_readPart_0 : List UInt8 := dkwX8_readPart_0 ++ dktX8_readPart_1
theorem dksX8_readPart_0 : cX8_readPart.data.toList.drop 0 = dktX8_readPart_0 := by decide +kernel
theorem dksX8_readPart_1 : cX8_readPart.data.toList.drop 22 = dktX8_readPart_1 := dk_seg dksX8_readPart_0 22 rfl rfl
theorem dksX8_readPart_2 : cX8_readPart.data.toList.drop 46 = dktX8_readPart_2 := dk_seg dksX8_readPart_1 24 rfl rfl
theorem dksX8_readPart_3 : cX8_readPart.data.toList.drop 69 = dktX8_readPart_3 := dk_seg dksX8_readPart_2 23 rfl rfl
theorem dX8_readPart_0 : decode cX8_readPart 0 = .ok (.aload_n 0, 1) := dk_42 (dk_at dksX8_readPart_0 0 rfl rfl)
theorem dX8_readPart_1 : decode cX8_readPart 1 = .ok (.invokevirtual 121, 3) := dk_182 0 121 (dk_at dksX8_readPart_0 1 rfl rfl)
theorem dX8_readPart_4 : decode cX8_readPart 4 = .ok (.aload_n 0, 1) := dk_42 (dk_at dksX8_readPart_0 4 rfl rfl)
theorem dX8_readPart_5 : decode cX8_readPart 5 = .ok (.getfield 96, 3) := dk_180 0 96 (dk_at dksX8_readPart_0 5 rfl rfl)
theorem dX8_readPart_8 : decode cX8_readPart 8 = .ok (.aload_n 0, 1) := dk_42 (dk_at dksX8_readPart_0 8 rfl rfl)
theorem dX8_readPart_9 : decode cX8_readPart 9 = .ok (.getfield 106, 3) := dk_180 0 106 (dk_at dksX8_readPart_0 9 rfl rfl)
theorem dX8_readPart_12 : decode cX8_readPart 12 = .ok (.if_icmp .ne 7, 3) := dk_160 0 7 (dk_at dksX8_readPart_0 12 rfl rfl)
theorem dX8_readPart_15 : decode cX8_readPart 15 = .ok (.iconst 1, 1) := dk_4 (dk_at dksX8_readPart_0 15 rfl rfl)
theorem dX8_readPart_16 : decode cX8_readPart 16 = .ok (.goto 4, 3) := dk_167 0 4 (dk_at dksX8_readPart_0 16 rfl rfl)
theorem dX8_readPart_19 : decode cX8_readPart 19 = .ok (.iconst 0, 1) := dk_3 (dk_at dksX8_readPart_0 19 rfl rfl)
theorem dX8_readPart_20 : decode cX8_readPart 20 = .ok (.istore_n 1, 1) := dk_60 (dk_at dksX8_readPart_0 20 rfl rfl)
theorem dX8_readPart_21 : decode cX8_readPart 21 = .ok (.iload_n 1, 1) := dk_27 (dk_at dksX8_readPart_0 21 rfl rfl)
theorem dX8_readPart_22 : decode cX8_readPart 22 = .ok (.ifCond .eq 14, 3) := dk_153 0 14 (dk_at dksX8_readPart_1 0 rfl rfl)
theorem dX8_readPart_25 : decode cX8_readPart 25 = .ok (.aload_n 0, 1) := dk_42 (dk_at dksX8_readPart_1 3 rfl rfl)
theorem dX8_readPart_26 : decode cX8_readPart 26 = .ok (.iconst 0, 1) := dk_3 (dk_at dksX8_readPart_1 4 rfl rfl)
theorem dX8_readPart_27 : decode cX8_readPart 27 = .ok (.sipush 999, 3) := dk_17 3 231 (dk_at dksX8_readPart_1 5 rfl rfl)
theorem dX8_readPart_30 : decode cX8_readPart 30 = .ok (.invokevirtual 128, 3) := dk_182 0 128 (dk_at dksX8_readPart_1 8 rfl rfl)
theorem dX8_readPart_33 : decode cX8_readPart 33 = .ok (.goto 7, 3) := dk_167 0 7 (dk_at dksX8_readPart_1 11 rfl rfl)
theorem dX8_readPart_36 : decode cX8_readPart 36 = .ok (.aload_n 0, 1) := dk_42 (dk_at dksX8_readPart_1 14 rfl rfl)
theorem dX8_readPart_37 : decode cX8_readPart 37 = .ok (.invokevirtual 217, 3) := dk_182 0 217 (dk_at dksX8_readPart_1 15 rfl rfl)
theorem dX8_readPart_40 : decode cX8_readPart 40 = .ok (.istore_n 2, 1) := dk_61 (dk_at dksX8_readPart_1 18 rfl rfl)
theorem dX8_readPart_41 : decode cX8_readPart 41 = .ok (.aload_n 0, 1) := dk_42 (dk_at dksX8_readPart_1 19 rfl rfl)
theorem dX8_readPart_42 : decode cX8_readPart 42 = .ok (.iload_n 1, 1) := dk_27 (dk_at dksX8_readPart_1 20 rfl rfl)
theorem dX8_readPart_43 : decode cX8_readPart 43 = .ok (.ifCond .eq 8, 3) := dk_153 0 8 (dk_at dksX8_readPart_1 21 rfl rfl)
theorem dX8_readPart_46 : decode cX8_readPart 46 = .ok (.bipush 10, 2) := dk_16 10 (dk_at dksX8_readPart_2 0 rfl rfl)
theorem dX8_readPart_48 : decode cX8_readPart 48 = .ok (.goto 4, 3) := dk_167 0 4 (dk_at dksX8_readPart_2 2 rfl rfl)
theorem dX8_readPart_51 : decode cX8_readPart 51 = .ok (.iload_n 2, 1) := dk_28 (dk_at dksX8_readPart_2 5 rfl rfl)
theorem dX8_readPart_52 : decode cX8_readPart 52 = .ok (.iload_n 1, 1) := dk_27 (dk_at dksX8_readPart_2 6 rfl rfl)
theorem dX8_readPart_53 : decode cX8_readPart 53 = .ok (.ifCond .eq 7, 3) := dk_153 0 7 (dk_at dksX8_readPart_2 7 rfl rfl)
theorem dX8_readPart_56 : decode cX8_readPart 56 = .ok (.iload_n 2, 1) := dk_28 (dk_at dksX8_readPart_2 10 rfl rfl)
theorem dX8_readPart_57 : decode cX8_readPart 57 = .ok (.goto 4, 3) := dk_167 0 4 (dk_at dksX8_readPart_2 11 rfl rfl)
theorem dX8_readPart_60 : decode cX8_readPart 60 = .ok (.iconst 0, 1) := dk_3 (dk_at dksX8_readPart_2 14 rfl rfl)
theorem dX8_readPart_61 : decode cX8_readPart 61 = .ok (.invokevirtual 220, 3) := dk_182 0 220 (dk_at dksX8_readPart_2 15 rfl rfl)
theorem dX8_readPart_64 : decode cX8_readPart 64 = .ok (.iload_n 2, 1) := dk_28 (dk_at dksX8_readPart_2 18 rfl rfl)
theorem dX8_readPart_65 : decode cX8_readPart 65 = .ok (.ifCond .lt 7, 3) := dk_155 0 7 (dk_at dksX8_readPart_2 19 rfl rfl)
theorem dX8_readPart_68 : decode cX8_readPart 68 = .ok (.iconst 1, 1) := dk_4 (dk_at dksX8_readPart_2 22 rfl rfl)
theorem dX8_readPart_69 : decode cX8_readPart 69 = .ok (.goto 4, 3) := dk_167 0 4 (dk_at dksX8_readPart_3 0 rfl rfl)
theorem dX8_readPart_72 : decode cX8_readPart 72 = .ok (.iconst 0, 1) := dk_3 (dk_at dksX8_readPart_3 3 rfl rfl)
theorem dX8_readPart_73 : decode cX8_readPart 73 = .ok (.ireturn, 1) := dk_172 (dk_at dksX8_readPart_3 4 rfl rfl)
abbrev cX8_wordOfPart : ByteArray := prog_19_method_44_code
def yX8_wordOfPart : MethodName := ⟨RX8, "wordOfPart", "()I"⟩
def dkwX8_wordOfPart_3 : List UInt8 := [182, 0, 124, 153, 0, 8, 16, 6, 167, 0, 4, 2, 172]
abbrev dktX8_wordOfPart_3 : List UInt8 := dkwX8_wordOfPart_3 ++ []
def dkwX8_wordOfPart_2 : List UInt8 := [182, 0, 124, 153, 0, 5, 7, 172, 42, 18, 213, 182, 0, 124, 153, 0, 5, 8, 172, 42, 18, 215]
abbrev dktX8_wordOfPart_2 : List UInt8 := dkwX8_wordOfPart_2 ++ dktX8_wordOfPart_3
def dkwX8_wordOfPart_1 : List UInt8 := [18, 207, 182, 0, 124, 153, 0, 5, 5, 172, 42, 18, 209, 182, 0, 124, 153, 0, 5, 6, 172, 42, 18, 211]
abbrev dktX8_wordOfPart_1 : List UInt8 := dkwX8_wordOfPart_1 ++ dktX8_wordOfPart_2
def dkwX8_wordOfPart_0 : List UInt8 := [42, 18, 175, 182, 0, 124, 153, 0, 5, 3, 172, 42, 18, 205, 182, 0, 124, 153, 0, 5, 4, 172, 42]
abbrev dktX8_wordOfPart_0 : List UInt8 := dkwX8_wordOfPart_0 ++ dktX8_wordOfPart_1
theorem dksX8_wordOfPart_0 : cX8_wordOfPart.data.toList.drop 0 = dktX8_wordOfPart_0 := by decide +kernel
theorem dksX8_wordOfPart_1 : cX8_wordOfPart.data.toList.drop 23 = dktX8_wordOfPart_1 := dk_seg dksX8_wordOfPart_0 23 rfl rfl
theorem dksX8_wordOfPart_2 : cX8_wordOfPart.data.toList.drop 47 = dktX8_wordOfPart_2 := dk_seg dksX8_wordOfPart_1 24 rfl rfl
theorem dksX8_wordOfPart_3 : cX8_wordOfPart.data.toList.drop 69 = dktX8_wordOfPart_3 := dk_seg dksX8_wordOfPart_2 22 rfl rfl
theorem dX8_wordOfPart_0 : decode cX8_wordOfPart 0 = .ok (.aload_n 0, 1) := dk_42 (dk_at dksX8_wordOfPart_0 0 rfl rfl)
theorem dX8_wordOfPart_1 : decode cX8_wordOfPart 1 = .ok (.ldc 175, 2) := dk_18 175 (dk_at dksX8_wordOfPart_0 1 rfl rfl)
theorem dX8_wordOfPart_3 : decode cX8_wordOfPart 3 = .ok (.invokevirtual 124, 3) := dk_182 0 124 (dk_at dksX8_wordOfPart_0 3 rfl rfl)
theorem dX8_wordOfPart_6 : decode cX8_wordOfPart 6 = .ok (.ifCond .eq 5, 3) := dk_153 0 5 (dk_at dksX8_wordOfPart_0 6 rfl rfl)
theorem dX8_wordOfPart_9 : decode cX8_wordOfPart 9 = .ok (.iconst 0, 1) := dk_3 (dk_at dksX8_wordOfPart_0 9 rfl rfl)
theorem dX8_wordOfPart_10 : decode cX8_wordOfPart 10 = .ok (.ireturn, 1) := dk_172 (dk_at dksX8_wordOfPart_0 10 rfl rfl)
theorem dX8_wordOfPart_11 : decode cX8_wordOfPart 11 = .ok (.aload_n 0, 1) := dk_42 (dk_at dksX8_wordOfPart_0 11 rfl rfl)
theorem dX8_wordOfPart_12 : decode cX8_wordOfPart 12 = .ok (.ldc 205, 2) := dk_18 205 (dk_at dksX8_wordOfPart_0 12 rfl rfl)
theorem dX8_wordOfPart_14 : decode cX8_wordOfPart 14 = .ok (.invokevirtual 124, 3) := dk_182 0 124 (dk_at dksX8_wordOfPart_0 14 rfl rfl)
theorem dX8_wordOfPart_17 : decode cX8_wordOfPart 17 = .ok (.ifCond .eq 5, 3) := dk_153 0 5 (dk_at dksX8_wordOfPart_0 17 rfl rfl)
theorem dX8_wordOfPart_20 : decode cX8_wordOfPart 20 = .ok (.iconst 1, 1) := dk_4 (dk_at dksX8_wordOfPart_0 20 rfl rfl)
theorem dX8_wordOfPart_21 : decode cX8_wordOfPart 21 = .ok (.ireturn, 1) := dk_172 (dk_at dksX8_wordOfPart_0 21 rfl rfl)
theorem dX8_wordOfPart_22 : decode cX8_wordOfPart 22 = .ok (.aload_n 0, 1) := dk_42 (dk_at dksX8_wordOfPart_0 22 rfl rfl)
theorem dX8_wordOfPart_23 : decode cX8_wordOfPart 23 = .ok (.ldc 207, 2) := dk_18 207 (dk_at dksX8_wordOfPart_1 0 rfl rfl)
theorem dX8_wordOfPart_25 : decode cX8_wordOfPart 25 = .ok (.invokevirtual 124, 3) := dk_182 0 124 (dk_at dksX8_wordOfPart_1 2 rfl rfl)
theorem dX8_wordOfPart_28 : decode cX8_wordOfPart 28 = .ok (.ifCond .eq 5, 3) := dk_153 0 5 (dk_at dksX8_wordOfPart_1 5 rfl rfl)
theorem dX8_wordOfPart_31 : decode cX8_wordOfPart 31 = .ok (.iconst 2, 1) := dk_5 (dk_at dksX8_wordOfPart_1 8 rfl rfl)
theorem dX8_wordOfPart_32 : decode cX8_wordOfPart 32 = .ok (.ireturn, 1) := dk_172 (dk_at dksX8_wordOfPart_1 9 rfl rfl)
theorem dX8_wordOfPart_33 : decode cX8_wordOfPart 33 = .ok (.aload_n 0, 1) := dk_42 (dk_at dksX8_wordOfPart_1 10 rfl rfl)
theorem dX8_wordOfPart_34 : decode cX8_wordOfPart 34 = .ok (.ldc 209, 2) := dk_18 209 (dk_at dksX8_wordOfPart_1 11 rfl rfl)
theorem dX8_wordOfPart_36 : decode cX8_wordOfPart 36 = .ok (.invokevirtual 124, 3) := dk_182 0 124 (dk_at dksX8_wordOfPart_1 13 rfl rfl)
theorem dX8_wordOfPart_39 : decode cX8_wordOfPart 39 = .ok (.ifCond .eq 5, 3) := dk_153 0 5 (dk_at dksX8_wordOfPart_1 16 rfl rfl)
theorem dX8_wordOfPart_42 : decode cX8_wordOfPart 42 = .ok (.iconst 3, 1) := dk_6 (dk_at dksX8_wordOfPart_1 19 rfl rfl)
theorem dX8_wordOfPart_43 : decode cX8_wordOfPart 43 = .ok (.ireturn, 1) := dk_172 (dk_at dksX8_wordOfPart_1 20 rfl rfl)
theorem dX8_wordOfPart_44 : decode cX8_wordOfPart 44 = .ok (.aload_n 0, 1) := dk_42 (dk_at dksX8_wordOfPart_1 21 rfl rfl)
theorem dX8_wordOfPart_45 : decode cX8_wordOfPart 45 = .ok (.ldc 211, 2) := dk_18 211 (dk_at dksX8_wordOfPart_1 22 rfl rfl)
theorem dX8_wordOfPart_47 : decode cX8_wordOfPart 47 = .ok (.invokevirtual 124, 3) := dk_182 0 124 (dk_at dksX8_wordOfPart_2 0 rfl rfl)
theorem dX8_wordOfPart_50 : decode cX8_wordOfPart 50 = .ok (.ifCond .eq 5, 3) := dk_153 0 5 (dk_at dksX8_wordOfPart_2 3 rfl rfl)
theorem dX8_wordOfPart_53 : decode cX8_wordOfPart 53 = .ok (.iconst 4, 1) := dk_7 (dk_at dksX8_wordOfPart_2 6 rfl rfl)
theorem dX8_wordOfPart_54 : decode cX8_wordOfPart 54 = .ok (.ireturn, 1) := dk_172 (dk_at dksX8_wordOfPart_2 7 rfl rfl)
theorem dX8_wordOfPart_55 : decode cX8_wordOfPart 55 = .ok (.aload_n 0, 1) := dk_42 (dk_at dksX8_wordOfPart_2 8 rfl rfl)
theorem dX8_wordOfPart_56 : decode cX8_wordOfPart 56 = .ok (.ldc 213, 2) := dk_18 213 (dk_at dksX8_wordOfPart_2 9 rfl rfl)
theorem dX8_wordOfPart_58 : decode cX8_wordOfPart 58 = .ok (.invokevirtual 124, 3) := dk_182 0 124 (dk_at dksX8_wordOfPart_2 11 rfl rfl)
theorem dX8_wordOfPart_61 : decode cX8_wordOfPart 61 = .ok (.ifCond .eq 5, 3) := dk_153 0 5 (dk_at dksX8_wordOfPart_2 14 rfl rfl)
theorem dX8_wordOfPart_64 : decode cX8_wordOfPart 64 = .ok (.iconst 5, 1) := dk_8 (dk_at dksX8_wordOfPart_2 17 rfl rfl)
theorem dX8_wordOfPart_65 : decode cX8_wordOfPart 65 = .ok (.ireturn, 1) := dk_172 (dk_at dksX8_wordOfPart_2 18 rfl rfl)
theorem dX8_wordOfPart_66 : decode cX8_wordOfPart 66 = .ok (.aload_n 0, 1) := dk_42 (dk_at dksX8_wordOfPart_2 19 rfl rfl)
theorem dX8_wordOfPart_67 : decode cX8_wordOfPart 67 = .ok (.ldc 215, 2) := dk_18 215 (dk_at dksX8_wordOfPart_2 20 rfl rfl)
theorem dX8_wordOfPart_69 : decode cX8_wordOfPart 69 = .ok (.invokevirtual 124, 3) := dk_182 0 124 (dk_at dksX8_wordOfPart_3 0 rfl rfl)
theorem dX8_wordOfPart_72 : decode cX8_wordOfPart 72 = .ok (.ifCond .eq 8, 3) := dk_153 0 8 (dk_at dksX8_wordOfPart_3 3 rfl rfl)
theorem dX8_wordOfPart_75 : decode cX8_wordOfPart 75 = .ok (.bipush 6, 2) := dk_16 6 (dk_at dksX8_wordOfPart_3 6 rfl rfl)
theorem dX8_wordOfPart_77 : decode cX8_wordOfPart 77 = .ok (.goto 4, 3) := dk_167 0 4 (dk_at dksX8_wordOfPart_3 8 rfl rfl)
theorem dX8_wordOfPart_80 : decode cX8_wordOfPart 80 = .ok (.iconst (-1), 1) := dk_2 (dk_at dksX8_wordOfPart_3 11 rfl rfl)
theorem dX8_wordOfPart_81 : decode cX8_wordOfPart 81 = .ok (.ireturn, 1) := dk_172 (dk_at dksX8_wordOfPart_3 12 rfl rfl)
abbrev cX8_throwsIf : ByteArray := prog_19_method_2_code
def yX8_throwsIf : MethodName := ⟨RX8, "throwsIf", "(ZI)Z"⟩
def dkwX8_throwsIf_0 : List UInt8 := [27, 153, 0, 8, 42, 28, 181, 0, 3, 27, 172]
abbrev dktX8_throwsIf_0 : List UInt8 := dkwX8_throwsIf_0 ++ []
theorem dksX8_throwsIf_0 : cX8_throwsIf.data.toList.drop 0 = dktX8_throwsIf_0 := by decide +kernel
theorem dX8_throwsIf_0 : decode cX8_throwsIf 0 = .ok (.iload_n 1, 1) := dk_27 (dk_at dksX8_throwsIf_0 0 rfl rfl)
theorem dX8_throwsIf_1 : decode cX8_throwsIf 1 = .ok (.ifCond .eq 8, 3) := dk_153 0 8 (dk_at dksX8_throwsIf_0 1 rfl rfl)
theorem dX8_throwsIf_4 : decode cX8_throwsIf 4 = .ok (.aload_n 0, 1) := dk_42 (dk_at dksX8_throwsIf_0 4 rfl rfl)
theorem dX8_throwsIf_5 : decode cX8_throwsIf 5 = .ok (.iload_n 2, 1) := dk_28 (dk_at dksX8_throwsIf_0 5 rfl rfl)
theorem dX8_throwsIf_6 : decode cX8_throwsIf 6 = .ok (.putfield 3, 3) := dk_181 0 3 (dk_at dksX8_throwsIf_0 6 rfl rfl)
theorem dX8_throwsIf_9 : decode cX8_throwsIf 9 = .ok (.iload_n 1, 1) := dk_27 (dk_at dksX8_throwsIf_0 9 rfl rfl)
theorem dX8_throwsIf_10 : decode cX8_throwsIf 10 = .ok (.ireturn, 1) := dk_172 (dk_at dksX8_throwsIf_0 10 rfl rfl)
abbrev cX8_law : ByteArray := prog_19_method_55_code
def yX8_law : MethodName := ⟨RX8, "law", "()I"⟩
def dkwX8_law_4 : List UInt8 := [181, 0, 71, 27, 172]
abbrev dktX8_law_4 : List UInt8 := dkwX8_law_4 ++ []
def dkwX8_law_3 : List UInt8 := [17, 4, 193, 28, 96, 46, 79, 132, 2, 1, 167, 255, 226, 42, 180, 0, 13, 5, 4, 79, 42, 3]
abbrev dktX8_law_3 : List UInt8 := dkwX8_law_3 ++ dktX8_law_4
def dkwX8_law_2 : List UInt8 := [27, 79, 3, 61, 28, 17, 3, 81, 162, 0, 29, 42, 180, 0, 13, 17, 1, 112, 28, 96, 42, 180, 0, 13]
abbrev dktX8_law_2 : List UInt8 := dkwX8_law_2 ++ dktX8_law_3
def dkwX8_law_1 : List UInt8 := [156, 0, 7, 4, 167, 0, 4, 3, 4, 182, 1, 24, 153, 0, 5, 3, 172, 42, 180, 0, 13, 17, 4, 193]
abbrev dktX8_law_1 : List UInt8 := dkwX8_law_1 ++ dktX8_law_2
def dkwX8_law_0 : List UInt8 := [42, 3, 182, 1, 20, 60, 42, 27, 156, 0, 10, 42, 180, 0, 106, 167, 0, 4, 2, 181, 0, 33, 42, 27]
abbrev dktX8_law_0 : List UInt8 := dkwX8_law_0 ++ dktX8_law_1
theorem dksX8_law_0 : cX8_law.data.toList.drop 0 = dktX8_law_0 := by decide +kernel
theorem dksX8_law_1 : cX8_law.data.toList.drop 24 = dktX8_law_1 := dk_seg dksX8_law_0 24 rfl rfl
theorem dksX8_law_2 : cX8_law.data.toList.drop 48 = dktX8_law_2 := dk_seg dksX8_law_1 24 rfl rfl
theorem dksX8_law_3 : cX8_law.data.toList.drop 72 = dktX8_law_3 := dk_seg dksX8_law_2 24 rfl rfl
theorem dksX8_law_4 : cX8_law.data.toList.drop 94 = dktX8_law_4 := dk_seg dksX8_law_3 22 rfl rfl
theorem dX8_law_0 : decode cX8_law 0 = .ok (.aload_n 0, 1) := dk_42 (dk_at dksX8_law_0 0 rfl rfl)
theorem dX8_law_1 : decode cX8_law 1 = .ok (.iconst 0, 1) := dk_3 (dk_at dksX8_law_0 1 rfl rfl)
theorem dX8_law_2 : decode cX8_law 2 = .ok (.invokevirtual 276, 3) := dk_182 1 20 (dk_at dksX8_law_0 2 rfl rfl)
theorem dX8_law_5 : decode cX8_law 5 = .ok (.istore_n 1, 1) := dk_60 (dk_at dksX8_law_0 5 rfl rfl)
theorem dX8_law_6 : decode cX8_law 6 = .ok (.aload_n 0, 1) := dk_42 (dk_at dksX8_law_0 6 rfl rfl)
theorem dX8_law_7 : decode cX8_law 7 = .ok (.iload_n 1, 1) := dk_27 (dk_at dksX8_law_0 7 rfl rfl)
theorem dX8_law_8 : decode cX8_law 8 = .ok (.ifCond .ge 10, 3) := dk_156 0 10 (dk_at dksX8_law_0 8 rfl rfl)
theorem dX8_law_11 : decode cX8_law 11 = .ok (.aload_n 0, 1) := dk_42 (dk_at dksX8_law_0 11 rfl rfl)
theorem dX8_law_12 : decode cX8_law 12 = .ok (.getfield 106, 3) := dk_180 0 106 (dk_at dksX8_law_0 12 rfl rfl)
theorem dX8_law_15 : decode cX8_law 15 = .ok (.goto 4, 3) := dk_167 0 4 (dk_at dksX8_law_0 15 rfl rfl)
theorem dX8_law_18 : decode cX8_law 18 = .ok (.iconst (-1), 1) := dk_2 (dk_at dksX8_law_0 18 rfl rfl)
theorem dX8_law_19 : decode cX8_law 19 = .ok (.putfield 33, 3) := dk_181 0 33 (dk_at dksX8_law_0 19 rfl rfl)
theorem dX8_law_22 : decode cX8_law 22 = .ok (.aload_n 0, 1) := dk_42 (dk_at dksX8_law_0 22 rfl rfl)
theorem dX8_law_23 : decode cX8_law 23 = .ok (.iload_n 1, 1) := dk_27 (dk_at dksX8_law_0 23 rfl rfl)
theorem dX8_law_24 : decode cX8_law 24 = .ok (.ifCond .ge 7, 3) := dk_156 0 7 (dk_at dksX8_law_1 0 rfl rfl)
theorem dX8_law_27 : decode cX8_law 27 = .ok (.iconst 1, 1) := dk_4 (dk_at dksX8_law_1 3 rfl rfl)
theorem dX8_law_28 : decode cX8_law 28 = .ok (.goto 4, 3) := dk_167 0 4 (dk_at dksX8_law_1 4 rfl rfl)
theorem dX8_law_31 : decode cX8_law 31 = .ok (.iconst 0, 1) := dk_3 (dk_at dksX8_law_1 7 rfl rfl)
theorem dX8_law_32 : decode cX8_law 32 = .ok (.iconst 1, 1) := dk_4 (dk_at dksX8_law_1 8 rfl rfl)
theorem dX8_law_33 : decode cX8_law 33 = .ok (.invokevirtual 280, 3) := dk_182 1 24 (dk_at dksX8_law_1 9 rfl rfl)
theorem dX8_law_36 : decode cX8_law 36 = .ok (.ifCond .eq 5, 3) := dk_153 0 5 (dk_at dksX8_law_1 12 rfl rfl)
theorem dX8_law_39 : decode cX8_law 39 = .ok (.iconst 0, 1) := dk_3 (dk_at dksX8_law_1 15 rfl rfl)
theorem dX8_law_40 : decode cX8_law 40 = .ok (.ireturn, 1) := dk_172 (dk_at dksX8_law_1 16 rfl rfl)
theorem dX8_law_41 : decode cX8_law 41 = .ok (.aload_n 0, 1) := dk_42 (dk_at dksX8_law_1 17 rfl rfl)
theorem dX8_law_42 : decode cX8_law 42 = .ok (.getfield 13, 3) := dk_180 0 13 (dk_at dksX8_law_1 18 rfl rfl)
theorem dX8_law_45 : decode cX8_law 45 = .ok (.sipush 1217, 3) := dk_17 4 193 (dk_at dksX8_law_1 21 rfl rfl)
theorem dX8_law_48 : decode cX8_law 48 = .ok (.iload_n 1, 1) := dk_27 (dk_at dksX8_law_2 0 rfl rfl)
theorem dX8_law_49 : decode cX8_law 49 = .ok (.iastore, 1) := dk_79 (dk_at dksX8_law_2 1 rfl rfl)
theorem dX8_law_50 : decode cX8_law 50 = .ok (.iconst 0, 1) := dk_3 (dk_at dksX8_law_2 2 rfl rfl)
theorem dX8_law_51 : decode cX8_law 51 = .ok (.istore_n 2, 1) := dk_61 (dk_at dksX8_law_2 3 rfl rfl)
theorem dX8_law_52 : decode cX8_law 52 = .ok (.iload_n 2, 1) := dk_28 (dk_at dksX8_law_2 4 rfl rfl)
theorem dX8_law_53 : decode cX8_law 53 = .ok (.sipush 849, 3) := dk_17 3 81 (dk_at dksX8_law_2 5 rfl rfl)
theorem dX8_law_56 : decode cX8_law 56 = .ok (.if_icmp .ge 29, 3) := dk_162 0 29 (dk_at dksX8_law_2 8 rfl rfl)
theorem dX8_law_59 : decode cX8_law 59 = .ok (.aload_n 0, 1) := dk_42 (dk_at dksX8_law_2 11 rfl rfl)
theorem dX8_law_60 : decode cX8_law 60 = .ok (.getfield 13, 3) := dk_180 0 13 (dk_at dksX8_law_2 12 rfl rfl)
theorem dX8_law_63 : decode cX8_law 63 = .ok (.sipush 368, 3) := dk_17 1 112 (dk_at dksX8_law_2 15 rfl rfl)
theorem dX8_law_66 : decode cX8_law 66 = .ok (.iload_n 2, 1) := dk_28 (dk_at dksX8_law_2 18 rfl rfl)
theorem dX8_law_67 : decode cX8_law 67 = .ok (.iadd, 1) := dk_96 (dk_at dksX8_law_2 19 rfl rfl)
theorem dX8_law_68 : decode cX8_law 68 = .ok (.aload_n 0, 1) := dk_42 (dk_at dksX8_law_2 20 rfl rfl)
theorem dX8_law_69 : decode cX8_law 69 = .ok (.getfield 13, 3) := dk_180 0 13 (dk_at dksX8_law_2 21 rfl rfl)
theorem dX8_law_72 : decode cX8_law 72 = .ok (.sipush 1217, 3) := dk_17 4 193 (dk_at dksX8_law_3 0 rfl rfl)
theorem dX8_law_75 : decode cX8_law 75 = .ok (.iload_n 2, 1) := dk_28 (dk_at dksX8_law_3 3 rfl rfl)
theorem dX8_law_76 : decode cX8_law 76 = .ok (.iadd, 1) := dk_96 (dk_at dksX8_law_3 4 rfl rfl)
theorem dX8_law_77 : decode cX8_law 77 = .ok (.iaload, 1) := dk_46 (dk_at dksX8_law_3 5 rfl rfl)
theorem dX8_law_78 : decode cX8_law 78 = .ok (.iastore, 1) := dk_79 (dk_at dksX8_law_3 6 rfl rfl)
theorem dX8_law_79 : decode cX8_law 79 = .ok (.iinc 2 1, 3) := dk_132 2 1 (dk_at dksX8_law_3 7 rfl rfl)
theorem dX8_law_82 : decode cX8_law 82 = .ok (.goto (-30), 3) := dk_167 255 226 (dk_at dksX8_law_3 10 rfl rfl)
theorem dX8_law_85 : decode cX8_law 85 = .ok (.aload_n 0, 1) := dk_42 (dk_at dksX8_law_3 13 rfl rfl)
theorem dX8_law_86 : decode cX8_law 86 = .ok (.getfield 13, 3) := dk_180 0 13 (dk_at dksX8_law_3 14 rfl rfl)
theorem dX8_law_89 : decode cX8_law 89 = .ok (.iconst 2, 1) := dk_5 (dk_at dksX8_law_3 17 rfl rfl)
theorem dX8_law_90 : decode cX8_law 90 = .ok (.iconst 1, 1) := dk_4 (dk_at dksX8_law_3 18 rfl rfl)
theorem dX8_law_91 : decode cX8_law 91 = .ok (.iastore, 1) := dk_79 (dk_at dksX8_law_3 19 rfl rfl)
theorem dX8_law_92 : decode cX8_law 92 = .ok (.aload_n 0, 1) := dk_42 (dk_at dksX8_law_3 20 rfl rfl)
theorem dX8_law_93 : decode cX8_law 93 = .ok (.iconst 0, 1) := dk_3 (dk_at dksX8_law_3 21 rfl rfl)
theorem dX8_law_94 : decode cX8_law 94 = .ok (.putfield 71, 3) := dk_181 0 71 (dk_at dksX8_law_4 0 rfl rfl)
theorem dX8_law_97 : decode cX8_law 97 = .ok (.iload_n 1, 1) := dk_27 (dk_at dksX8_law_4 3 rfl rfl)
theorem dX8_law_98 : decode cX8_law 98 = .ok (.ireturn, 1) := dk_172 (dk_at dksX8_law_4 4 rfl rfl)
abbrev cX8_op : ByteArray := prog_19_method_90_code
def yX8_op : MethodName := ⟨RX8, "op", "(II)I"⟩
def dkwX8_op_8 : List UInt8 := [126, 172]
abbrev dktX8_op_8 : List UInt8 := dkwX8_op_8 ++ []
def dkwX8_op_7 : List UInt8 := [6, 162, 0, 12, 42, 27, 28, 182, 0, 78, 167, 0, 15, 42, 180, 0, 45, 27, 46, 28, 6, 100, 122, 4]
abbrev dktX8_op_7 : List UInt8 := dkwX8_op_7 ++ dktX8_op_8
def dkwX8_op_6 : List UInt8 := [154, 0, 7, 3, 167, 0, 18, 16, 100, 42, 27, 182, 1, 112, 104, 42, 180, 0, 13, 6, 46, 108, 172, 28]
abbrev dktX8_op_6 : List UInt8 := dkwX8_op_6 ++ dktX8_op_7
def dkwX8_op_5 : List UInt8 := [182, 1, 125, 172, 42, 27, 182, 1, 164, 172, 42, 27, 182, 1, 112, 172, 42, 180, 0, 13, 6, 46]
abbrev dktX8_op_5 : List UInt8 := dkwX8_op_5 ++ dktX8_op_6
def dkwX8_op_4 : List UInt8 := [42, 27, 182, 1, 115, 153, 0, 7, 4, 167, 0, 4, 3, 172, 42, 27, 182, 1, 149, 172, 42, 4, 27]
abbrev dktX8_op_4 : List UInt8 := dkwX8_op_4 ++ dktX8_op_5
def dkwX8_op_3 : List UInt8 := [170, 0, 0, 0, 0, 0, 0, 108, 0, 0, 0, 7, 0, 0, 0, 12, 0, 0, 0, 40, 0, 0, 0, 54, 0, 0, 0, 60, 0, 0, 0, 67, 0, 0, 0, 73, 0, 0, 0, 79]
abbrev dktX8_op_3 : List UInt8 := dkwX8_op_3 ++ dktX8_op_4
def dkwX8_op_2 : List UInt8 := [28]
abbrev dktX8_op_2 : List UInt8 := dkwX8_op_2 ++ dktX8_op_3
def dkwX8_op_1 : List UInt8 := [184, 0, 88, 154, 0, 7, 4, 167, 0, 4, 3, 5, 182, 1, 24, 153, 0, 5, 3, 172, 42, 182, 1, 167]
abbrev dktX8_op_1 : List UInt8 := dkwX8_op_1 ++ dktX8_op_2
def dkwX8_op_0 : List UInt8 := [42, 3, 181, 0, 3, 42, 42, 27, 182, 1, 177, 4, 182, 1, 24, 154, 0, 26, 42, 28, 3, 16, 12]
abbrev dktX8_op_0 : List UInt8 := dkwX8_op_0 ++ dktX8_op_1
theorem dksX8_op_0 : cX8_op.data.toList.drop 0 = dktX8_op_0 := by decide +kernel
theorem dksX8_op_1 : cX8_op.data.toList.drop 23 = dktX8_op_1 := dk_seg dksX8_op_0 23 rfl rfl
theorem dksX8_op_2 : cX8_op.data.toList.drop 47 = dktX8_op_2 := dk_seg dksX8_op_1 24 rfl rfl
theorem dksX8_op_3 : cX8_op.data.toList.drop 48 = dktX8_op_3 := dk_seg dksX8_op_2 1 rfl rfl
theorem dksX8_op_4 : cX8_op.data.toList.drop 88 = dktX8_op_4 := dk_seg dksX8_op_3 40 rfl rfl
theorem dksX8_op_5 : cX8_op.data.toList.drop 111 = dktX8_op_5 := dk_seg dksX8_op_4 23 rfl rfl
theorem dksX8_op_6 : cX8_op.data.toList.drop 133 = dktX8_op_6 := dk_seg dksX8_op_5 22 rfl rfl
theorem dksX8_op_7 : cX8_op.data.toList.drop 157 = dktX8_op_7 := dk_seg dksX8_op_6 24 rfl rfl
theorem dksX8_op_8 : cX8_op.data.toList.drop 181 = dktX8_op_8 := dk_seg dksX8_op_7 24 rfl rfl
theorem dX8_op_0 : decode cX8_op 0 = .ok (.aload_n 0, 1) := dk_42 (dk_at dksX8_op_0 0 rfl rfl)
theorem dX8_op_1 : decode cX8_op 1 = .ok (.iconst 0, 1) := dk_3 (dk_at dksX8_op_0 1 rfl rfl)
theorem dX8_op_2 : decode cX8_op 2 = .ok (.putfield 3, 3) := dk_181 0 3 (dk_at dksX8_op_0 2 rfl rfl)
theorem dX8_op_5 : decode cX8_op 5 = .ok (.aload_n 0, 1) := dk_42 (dk_at dksX8_op_0 5 rfl rfl)
theorem dX8_op_6 : decode cX8_op 6 = .ok (.aload_n 0, 1) := dk_42 (dk_at dksX8_op_0 6 rfl rfl)
theorem dX8_op_7 : decode cX8_op 7 = .ok (.iload_n 1, 1) := dk_27 (dk_at dksX8_op_0 7 rfl rfl)
theorem dX8_op_8 : decode cX8_op 8 = .ok (.invokevirtual 433, 3) := dk_182 1 177 (dk_at dksX8_op_0 8 rfl rfl)
theorem dX8_op_11 : decode cX8_op 11 = .ok (.iconst 1, 1) := dk_4 (dk_at dksX8_op_0 11 rfl rfl)
theorem dX8_op_12 : decode cX8_op 12 = .ok (.invokevirtual 280, 3) := dk_182 1 24 (dk_at dksX8_op_0 12 rfl rfl)
theorem dX8_op_15 : decode cX8_op 15 = .ok (.ifCond .ne 26, 3) := dk_154 0 26 (dk_at dksX8_op_0 15 rfl rfl)
theorem dX8_op_18 : decode cX8_op 18 = .ok (.aload_n 0, 1) := dk_42 (dk_at dksX8_op_0 18 rfl rfl)
theorem dX8_op_19 : decode cX8_op 19 = .ok (.iload_n 2, 1) := dk_28 (dk_at dksX8_op_0 19 rfl rfl)
theorem dX8_op_20 : decode cX8_op 20 = .ok (.iconst 0, 1) := dk_3 (dk_at dksX8_op_0 20 rfl rfl)
theorem dX8_op_21 : decode cX8_op 21 = .ok (.bipush 12, 2) := dk_16 12 (dk_at dksX8_op_0 21 rfl rfl)
theorem dX8_op_23 : decode cX8_op 23 = .ok (.invokestatic 88, 3) := dk_184 0 88 (dk_at dksX8_op_1 0 rfl rfl)
theorem dX8_op_26 : decode cX8_op 26 = .ok (.ifCond .ne 7, 3) := dk_154 0 7 (dk_at dksX8_op_1 3 rfl rfl)
theorem dX8_op_29 : decode cX8_op 29 = .ok (.iconst 1, 1) := dk_4 (dk_at dksX8_op_1 6 rfl rfl)
theorem dX8_op_30 : decode cX8_op 30 = .ok (.goto 4, 3) := dk_167 0 4 (dk_at dksX8_op_1 7 rfl rfl)
theorem dX8_op_33 : decode cX8_op 33 = .ok (.iconst 0, 1) := dk_3 (dk_at dksX8_op_1 10 rfl rfl)
theorem dX8_op_34 : decode cX8_op 34 = .ok (.iconst 2, 1) := dk_5 (dk_at dksX8_op_1 11 rfl rfl)
theorem dX8_op_35 : decode cX8_op 35 = .ok (.invokevirtual 280, 3) := dk_182 1 24 (dk_at dksX8_op_1 12 rfl rfl)
theorem dX8_op_38 : decode cX8_op 38 = .ok (.ifCond .eq 5, 3) := dk_153 0 5 (dk_at dksX8_op_1 15 rfl rfl)
theorem dX8_op_41 : decode cX8_op 41 = .ok (.iconst 0, 1) := dk_3 (dk_at dksX8_op_1 18 rfl rfl)
theorem dX8_op_42 : decode cX8_op 42 = .ok (.ireturn, 1) := dk_172 (dk_at dksX8_op_1 19 rfl rfl)
theorem dX8_op_43 : decode cX8_op 43 = .ok (.aload_n 0, 1) := dk_42 (dk_at dksX8_op_1 20 rfl rfl)
theorem dX8_op_44 : decode cX8_op 44 = .ok (.invokevirtual 423, 3) := dk_182 1 167 (dk_at dksX8_op_1 21 rfl rfl)
theorem dX8_op_47 : decode cX8_op 47 = .ok (.iload_n 2, 1) := dk_28 (dk_at dksX8_op_2 0 rfl rfl)
theorem dX8_op_48 : decode cX8_op 48 = .ok (.tableswitch 108 7 12 #[40, 54, 60, 67, 73, 79], 40) := by decide +kernel
theorem dX8_op_88 : decode cX8_op 88 = .ok (.aload_n 0, 1) := dk_42 (dk_at dksX8_op_4 0 rfl rfl)
theorem dX8_op_89 : decode cX8_op 89 = .ok (.iload_n 1, 1) := dk_27 (dk_at dksX8_op_4 1 rfl rfl)
theorem dX8_op_90 : decode cX8_op 90 = .ok (.invokevirtual 371, 3) := dk_182 1 115 (dk_at dksX8_op_4 2 rfl rfl)
theorem dX8_op_93 : decode cX8_op 93 = .ok (.ifCond .eq 7, 3) := dk_153 0 7 (dk_at dksX8_op_4 5 rfl rfl)
theorem dX8_op_96 : decode cX8_op 96 = .ok (.iconst 1, 1) := dk_4 (dk_at dksX8_op_4 8 rfl rfl)
theorem dX8_op_97 : decode cX8_op 97 = .ok (.goto 4, 3) := dk_167 0 4 (dk_at dksX8_op_4 9 rfl rfl)
theorem dX8_op_100 : decode cX8_op 100 = .ok (.iconst 0, 1) := dk_3 (dk_at dksX8_op_4 12 rfl rfl)
theorem dX8_op_101 : decode cX8_op 101 = .ok (.ireturn, 1) := dk_172 (dk_at dksX8_op_4 13 rfl rfl)
theorem dX8_op_102 : decode cX8_op 102 = .ok (.aload_n 0, 1) := dk_42 (dk_at dksX8_op_4 14 rfl rfl)
theorem dX8_op_103 : decode cX8_op 103 = .ok (.iload_n 1, 1) := dk_27 (dk_at dksX8_op_4 15 rfl rfl)
theorem dX8_op_104 : decode cX8_op 104 = .ok (.invokevirtual 405, 3) := dk_182 1 149 (dk_at dksX8_op_4 16 rfl rfl)
theorem dX8_op_107 : decode cX8_op 107 = .ok (.ireturn, 1) := dk_172 (dk_at dksX8_op_4 19 rfl rfl)
theorem dX8_op_108 : decode cX8_op 108 = .ok (.aload_n 0, 1) := dk_42 (dk_at dksX8_op_4 20 rfl rfl)
theorem dX8_op_109 : decode cX8_op 109 = .ok (.iconst 1, 1) := dk_4 (dk_at dksX8_op_4 21 rfl rfl)
theorem dX8_op_110 : decode cX8_op 110 = .ok (.iload_n 1, 1) := dk_27 (dk_at dksX8_op_4 22 rfl rfl)
theorem dX8_op_111 : decode cX8_op 111 = .ok (.invokevirtual 381, 3) := dk_182 1 125 (dk_at dksX8_op_5 0 rfl rfl)
theorem dX8_op_114 : decode cX8_op 114 = .ok (.ireturn, 1) := dk_172 (dk_at dksX8_op_5 3 rfl rfl)
theorem dX8_op_115 : decode cX8_op 115 = .ok (.aload_n 0, 1) := dk_42 (dk_at dksX8_op_5 4 rfl rfl)
theorem dX8_op_116 : decode cX8_op 116 = .ok (.iload_n 1, 1) := dk_27 (dk_at dksX8_op_5 5 rfl rfl)
theorem dX8_op_117 : decode cX8_op 117 = .ok (.invokevirtual 420, 3) := dk_182 1 164 (dk_at dksX8_op_5 6 rfl rfl)
theorem dX8_op_120 : decode cX8_op 120 = .ok (.ireturn, 1) := dk_172 (dk_at dksX8_op_5 9 rfl rfl)
theorem dX8_op_121 : decode cX8_op 121 = .ok (.aload_n 0, 1) := dk_42 (dk_at dksX8_op_5 10 rfl rfl)
theorem dX8_op_122 : decode cX8_op 122 = .ok (.iload_n 1, 1) := dk_27 (dk_at dksX8_op_5 11 rfl rfl)
theorem dX8_op_123 : decode cX8_op 123 = .ok (.invokevirtual 368, 3) := dk_182 1 112 (dk_at dksX8_op_5 12 rfl rfl)
theorem dX8_op_126 : decode cX8_op 126 = .ok (.ireturn, 1) := dk_172 (dk_at dksX8_op_5 15 rfl rfl)
theorem dX8_op_127 : decode cX8_op 127 = .ok (.aload_n 0, 1) := dk_42 (dk_at dksX8_op_5 16 rfl rfl)
theorem dX8_op_128 : decode cX8_op 128 = .ok (.getfield 13, 3) := dk_180 0 13 (dk_at dksX8_op_5 17 rfl rfl)
theorem dX8_op_131 : decode cX8_op 131 = .ok (.iconst 3, 1) := dk_6 (dk_at dksX8_op_5 20 rfl rfl)
theorem dX8_op_132 : decode cX8_op 132 = .ok (.iaload, 1) := dk_46 (dk_at dksX8_op_5 21 rfl rfl)
theorem dX8_op_133 : decode cX8_op 133 = .ok (.ifCond .ne 7, 3) := dk_154 0 7 (dk_at dksX8_op_6 0 rfl rfl)
theorem dX8_op_136 : decode cX8_op 136 = .ok (.iconst 0, 1) := dk_3 (dk_at dksX8_op_6 3 rfl rfl)
theorem dX8_op_137 : decode cX8_op 137 = .ok (.goto 18, 3) := dk_167 0 18 (dk_at dksX8_op_6 4 rfl rfl)
theorem dX8_op_140 : decode cX8_op 140 = .ok (.bipush 100, 2) := dk_16 100 (dk_at dksX8_op_6 7 rfl rfl)
theorem dX8_op_142 : decode cX8_op 142 = .ok (.aload_n 0, 1) := dk_42 (dk_at dksX8_op_6 9 rfl rfl)
theorem dX8_op_143 : decode cX8_op 143 = .ok (.iload_n 1, 1) := dk_27 (dk_at dksX8_op_6 10 rfl rfl)
theorem dX8_op_144 : decode cX8_op 144 = .ok (.invokevirtual 368, 3) := dk_182 1 112 (dk_at dksX8_op_6 11 rfl rfl)
theorem dX8_op_147 : decode cX8_op 147 = .ok (.imul, 1) := dk_104 (dk_at dksX8_op_6 14 rfl rfl)
theorem dX8_op_148 : decode cX8_op 148 = .ok (.aload_n 0, 1) := dk_42 (dk_at dksX8_op_6 15 rfl rfl)
theorem dX8_op_149 : decode cX8_op 149 = .ok (.getfield 13, 3) := dk_180 0 13 (dk_at dksX8_op_6 16 rfl rfl)
theorem dX8_op_152 : decode cX8_op 152 = .ok (.iconst 3, 1) := dk_6 (dk_at dksX8_op_6 19 rfl rfl)
theorem dX8_op_153 : decode cX8_op 153 = .ok (.iaload, 1) := dk_46 (dk_at dksX8_op_6 20 rfl rfl)
theorem dX8_op_154 : decode cX8_op 154 = .ok (.idiv, 1) := dk_108 (dk_at dksX8_op_6 21 rfl rfl)
theorem dX8_op_155 : decode cX8_op 155 = .ok (.ireturn, 1) := dk_172 (dk_at dksX8_op_6 22 rfl rfl)
theorem dX8_op_156 : decode cX8_op 156 = .ok (.iload_n 2, 1) := dk_28 (dk_at dksX8_op_6 23 rfl rfl)
theorem dX8_op_157 : decode cX8_op 157 = .ok (.iconst 3, 1) := dk_6 (dk_at dksX8_op_7 0 rfl rfl)
theorem dX8_op_158 : decode cX8_op 158 = .ok (.if_icmp .ge 12, 3) := dk_162 0 12 (dk_at dksX8_op_7 1 rfl rfl)
theorem dX8_op_161 : decode cX8_op 161 = .ok (.aload_n 0, 1) := dk_42 (dk_at dksX8_op_7 4 rfl rfl)
theorem dX8_op_162 : decode cX8_op 162 = .ok (.iload_n 1, 1) := dk_27 (dk_at dksX8_op_7 5 rfl rfl)
theorem dX8_op_163 : decode cX8_op 163 = .ok (.iload_n 2, 1) := dk_28 (dk_at dksX8_op_7 6 rfl rfl)
theorem dX8_op_164 : decode cX8_op 164 = .ok (.invokevirtual 78, 3) := dk_182 0 78 (dk_at dksX8_op_7 7 rfl rfl)
theorem dX8_op_167 : decode cX8_op 167 = .ok (.goto 15, 3) := dk_167 0 15 (dk_at dksX8_op_7 10 rfl rfl)
theorem dX8_op_170 : decode cX8_op 170 = .ok (.aload_n 0, 1) := dk_42 (dk_at dksX8_op_7 13 rfl rfl)
theorem dX8_op_171 : decode cX8_op 171 = .ok (.getfield 45, 3) := dk_180 0 45 (dk_at dksX8_op_7 14 rfl rfl)
theorem dX8_op_174 : decode cX8_op 174 = .ok (.iload_n 1, 1) := dk_27 (dk_at dksX8_op_7 17 rfl rfl)
theorem dX8_op_175 : decode cX8_op 175 = .ok (.iaload, 1) := dk_46 (dk_at dksX8_op_7 18 rfl rfl)
theorem dX8_op_176 : decode cX8_op 176 = .ok (.iload_n 2, 1) := dk_28 (dk_at dksX8_op_7 19 rfl rfl)
theorem dX8_op_177 : decode cX8_op 177 = .ok (.iconst 3, 1) := dk_6 (dk_at dksX8_op_7 20 rfl rfl)
theorem dX8_op_178 : decode cX8_op 178 = .ok (.isub, 1) := dk_100 (dk_at dksX8_op_7 21 rfl rfl)
theorem dX8_op_179 : decode cX8_op 179 = .ok (.ishr, 1) := dk_122 (dk_at dksX8_op_7 22 rfl rfl)
theorem dX8_op_180 : decode cX8_op 180 = .ok (.iconst 1, 1) := dk_4 (dk_at dksX8_op_7 23 rfl rfl)
theorem dX8_op_181 : decode cX8_op 181 = .ok (.iand, 1) := dk_126 (dk_at dksX8_op_8 0 rfl rfl)
theorem dX8_op_182 : decode cX8_op 182 = .ok (.ireturn, 1) := dk_172 (dk_at dksX8_op_8 1 rfl rfl)
abbrev cX8_noOp : ByteArray := prog_19_method_19_code
def yX8_noOp : MethodName := ⟨RX8, "noOp", "(I)Z"⟩
def dkwX8_noOp_0 : List UInt8 := [27, 3, 42, 182, 0, 84, 4, 100, 184, 0, 88, 154, 0, 7, 4, 167, 0, 4, 3, 172]
abbrev dktX8_noOp_0 : List UInt8 := dkwX8_noOp_0 ++ []
theorem dksX8_noOp_0 : cX8_noOp.data.toList.drop 0 = dktX8_noOp_0 := by decide +kernel
theorem dX8_noOp_0 : decode cX8_noOp 0 = .ok (.iload_n 1, 1) := dk_27 (dk_at dksX8_noOp_0 0 rfl rfl)
theorem dX8_noOp_1 : decode cX8_noOp 1 = .ok (.iconst 0, 1) := dk_3 (dk_at dksX8_noOp_0 1 rfl rfl)
theorem dX8_noOp_2 : decode cX8_noOp 2 = .ok (.aload_n 0, 1) := dk_42 (dk_at dksX8_noOp_0 2 rfl rfl)
theorem dX8_noOp_3 : decode cX8_noOp 3 = .ok (.invokevirtual 84, 3) := dk_182 0 84 (dk_at dksX8_noOp_0 3 rfl rfl)
theorem dX8_noOp_6 : decode cX8_noOp 6 = .ok (.iconst 1, 1) := dk_4 (dk_at dksX8_noOp_0 6 rfl rfl)
theorem dX8_noOp_7 : decode cX8_noOp 7 = .ok (.isub, 1) := dk_100 (dk_at dksX8_noOp_0 7 rfl rfl)
theorem dX8_noOp_8 : decode cX8_noOp 8 = .ok (.invokestatic 88, 3) := dk_184 0 88 (dk_at dksX8_noOp_0 8 rfl rfl)
theorem dX8_noOp_11 : decode cX8_noOp 11 = .ok (.ifCond .ne 7, 3) := dk_154 0 7 (dk_at dksX8_noOp_0 11 rfl rfl)
theorem dX8_noOp_14 : decode cX8_noOp 14 = .ok (.iconst 1, 1) := dk_4 (dk_at dksX8_noOp_0 14 rfl rfl)
theorem dX8_noOp_15 : decode cX8_noOp 15 = .ok (.goto 4, 3) := dk_167 0 4 (dk_at dksX8_noOp_0 15 rfl rfl)
theorem dX8_noOp_18 : decode cX8_noOp 18 = .ok (.iconst 0, 1) := dk_3 (dk_at dksX8_noOp_0 18 rfl rfl)
theorem dX8_noOp_19 : decode cX8_noOp 19 = .ok (.ireturn, 1) := dk_172 (dk_at dksX8_noOp_0 19 rfl rfl)
abbrev cX8_in : ByteArray := prog_19_method_3_code
def yX8_in : MethodName := ⟨RX8, "in", "(III)Z"⟩
def dkwX8_in_0 : List UInt8 := [26, 27, 161, 0, 12, 26, 28, 163, 0, 7, 4, 167, 0, 4, 3, 172]
abbrev dktX8_in_0 : List UInt8 := dkwX8_in_0 ++ []
theorem dksX8_in_0 : cX8_in.data.toList.drop 0 = dktX8_in_0 := by decide +kernel
theorem dX8_in_0 : decode cX8_in 0 = .ok (.iload_n 0, 1) := dk_26 (dk_at dksX8_in_0 0 rfl rfl)
theorem dX8_in_1 : decode cX8_in 1 = .ok (.iload_n 1, 1) := dk_27 (dk_at dksX8_in_0 1 rfl rfl)
theorem dX8_in_2 : decode cX8_in 2 = .ok (.if_icmp .lt 12, 3) := dk_161 0 12 (dk_at dksX8_in_0 2 rfl rfl)
theorem dX8_in_5 : decode cX8_in 5 = .ok (.iload_n 0, 1) := dk_26 (dk_at dksX8_in_0 5 rfl rfl)
theorem dX8_in_6 : decode cX8_in 6 = .ok (.iload_n 2, 1) := dk_28 (dk_at dksX8_in_0 6 rfl rfl)
theorem dX8_in_7 : decode cX8_in 7 = .ok (.if_icmp .gt 7, 3) := dk_163 0 7 (dk_at dksX8_in_0 7 rfl rfl)
theorem dX8_in_10 : decode cX8_in 10 = .ok (.iconst 1, 1) := dk_4 (dk_at dksX8_in_0 10 rfl rfl)
theorem dX8_in_11 : decode cX8_in 11 = .ok (.goto 4, 3) := dk_167 0 4 (dk_at dksX8_in_0 11 rfl rfl)
theorem dX8_in_14 : decode cX8_in 14 = .ok (.iconst 0, 1) := dk_3 (dk_at dksX8_in_0 14 rfl rfl)
theorem dX8_in_15 : decode cX8_in 15 = .ok (.ireturn, 1) := dk_172 (dk_at dksX8_in_0 15 rfl rfl)
abbrev cX8_laysTraits : ByteArray := prog_19_method_72_code
def yX8_laysTraits : MethodName := ⟨RX8, "laysTraits", "()V"⟩
def dkwX8_laysTraits_3 : List UInt8 := [3, 167, 0, 7, 4, 21, 4, 120, 128, 79, 132, 4, 1, 167, 255, 219, 132, 1, 1, 167, 255, 168, 177]
abbrev dktX8_laysTraits_3 : List UInt8 := dkwX8_laysTraits_3 ++ []
def dkwX8_laysTraits_2 : List UInt8 := [21, 4, 6, 163, 0, 37, 42, 180, 0, 45, 27, 92, 46, 42, 27, 21, 4, 182, 1, 109, 2, 160, 0, 7]
abbrev dktX8_laysTraits_2 : List UInt8 := dkwX8_laysTraits_2 ++ dktX8_laysTraits_3
def dkwX8_laysTraits_1 : List UInt8 := [154, 0, 6, 167, 0, 60, 42, 180, 0, 48, 27, 32, 80, 42, 180, 0, 45, 27, 3, 79, 3, 54, 4]
abbrev dktX8_laysTraits_1 : List UInt8 := dkwX8_laysTraits_1 ++ dktX8_laysTraits_2
def dkwX8_laysTraits_0 : List UInt8 := [3, 60, 27, 42, 182, 0, 84, 162, 0, 86, 42, 27, 182, 1, 105, 65, 42, 180, 0, 48, 27, 47, 32, 148]
abbrev dktX8_laysTraits_0 : List UInt8 := dkwX8_laysTraits_0 ++ dktX8_laysTraits_1
theorem dksX8_laysTraits_0 : cX8_laysTraits.data.toList.drop 0 = dktX8_laysTraits_0 := by decide +kernel
theorem dksX8_laysTraits_1 : cX8_laysTraits.data.toList.drop 24 = dktX8_laysTraits_1 := dk_seg dksX8_laysTraits_0 24 rfl rfl
theorem dksX8_laysTraits_2 : cX8_laysTraits.data.toList.drop 47 = dktX8_laysTraits_2 := dk_seg dksX8_laysTraits_1 23 rfl rfl
theorem dksX8_laysTraits_3 : cX8_laysTraits.data.toList.drop 71 = dktX8_laysTraits_3 := dk_seg dksX8_laysTraits_2 24 rfl rfl
theorem dX8_laysTraits_0 : decode cX8_laysTraits 0 = .ok (.iconst 0, 1) := dk_3 (dk_at dksX8_laysTraits_0 0 rfl rfl)
theorem dX8_laysTraits_1 : decode cX8_laysTraits 1 = .ok (.istore_n 1, 1) := dk_60 (dk_at dksX8_laysTraits_0 1 rfl rfl)
theorem dX8_laysTraits_2 : decode cX8_laysTraits 2 = .ok (.iload_n 1, 1) := dk_27 (dk_at dksX8_laysTraits_0 2 rfl rfl)
theorem dX8_laysTraits_3 : decode cX8_laysTraits 3 = .ok (.aload_n 0, 1) := dk_42 (dk_at dksX8_laysTraits_0 3 rfl rfl)
theorem dX8_laysTraits_4 : decode cX8_laysTraits 4 = .ok (.invokevirtual 84, 3) := dk_182 0 84 (dk_at dksX8_laysTraits_0 4 rfl rfl)
theorem dX8_laysTraits_7 : decode cX8_laysTraits 7 = .ok (.if_icmp .ge 86, 3) := dk_162 0 86 (dk_at dksX8_laysTraits_0 7 rfl rfl)
theorem dX8_laysTraits_10 : decode cX8_laysTraits 10 = .ok (.aload_n 0, 1) := dk_42 (dk_at dksX8_laysTraits_0 10 rfl rfl)
theorem dX8_laysTraits_11 : decode cX8_laysTraits 11 = .ok (.iload_n 1, 1) := dk_27 (dk_at dksX8_laysTraits_0 11 rfl rfl)
theorem dX8_laysTraits_12 : decode cX8_laysTraits 12 = .ok (.invokevirtual 361, 3) := dk_182 1 105 (dk_at dksX8_laysTraits_0 12 rfl rfl)
theorem dX8_laysTraits_15 : decode cX8_laysTraits 15 = .ok (.lstore_n 2, 1) := dk_65 (dk_at dksX8_laysTraits_0 15 rfl rfl)
theorem dX8_laysTraits_16 : decode cX8_laysTraits 16 = .ok (.aload_n 0, 1) := dk_42 (dk_at dksX8_laysTraits_0 16 rfl rfl)
theorem dX8_laysTraits_17 : decode cX8_laysTraits 17 = .ok (.getfield 48, 3) := dk_180 0 48 (dk_at dksX8_laysTraits_0 17 rfl rfl)
theorem dX8_laysTraits_20 : decode cX8_laysTraits 20 = .ok (.iload_n 1, 1) := dk_27 (dk_at dksX8_laysTraits_0 20 rfl rfl)
theorem dX8_laysTraits_21 : decode cX8_laysTraits 21 = .ok (.laload, 1) := dk_47 (dk_at dksX8_laysTraits_0 21 rfl rfl)
theorem dX8_laysTraits_22 : decode cX8_laysTraits 22 = .ok (.lload_n 2, 1) := dk_32 (dk_at dksX8_laysTraits_0 22 rfl rfl)
theorem dX8_laysTraits_23 : decode cX8_laysTraits 23 = .ok (.lcmp, 1) := dk_148 (dk_at dksX8_laysTraits_0 23 rfl rfl)
theorem dX8_laysTraits_24 : decode cX8_laysTraits 24 = .ok (.ifCond .ne 6, 3) := dk_154 0 6 (dk_at dksX8_laysTraits_1 0 rfl rfl)
theorem dX8_laysTraits_27 : decode cX8_laysTraits 27 = .ok (.goto 60, 3) := dk_167 0 60 (dk_at dksX8_laysTraits_1 3 rfl rfl)
theorem dX8_laysTraits_30 : decode cX8_laysTraits 30 = .ok (.aload_n 0, 1) := dk_42 (dk_at dksX8_laysTraits_1 6 rfl rfl)
theorem dX8_laysTraits_31 : decode cX8_laysTraits 31 = .ok (.getfield 48, 3) := dk_180 0 48 (dk_at dksX8_laysTraits_1 7 rfl rfl)
theorem dX8_laysTraits_34 : decode cX8_laysTraits 34 = .ok (.iload_n 1, 1) := dk_27 (dk_at dksX8_laysTraits_1 10 rfl rfl)
theorem dX8_laysTraits_35 : decode cX8_laysTraits 35 = .ok (.lload_n 2, 1) := dk_32 (dk_at dksX8_laysTraits_1 11 rfl rfl)
theorem dX8_laysTraits_36 : decode cX8_laysTraits 36 = .ok (.lastore, 1) := dk_80 (dk_at dksX8_laysTraits_1 12 rfl rfl)
theorem dX8_laysTraits_37 : decode cX8_laysTraits 37 = .ok (.aload_n 0, 1) := dk_42 (dk_at dksX8_laysTraits_1 13 rfl rfl)
theorem dX8_laysTraits_38 : decode cX8_laysTraits 38 = .ok (.getfield 45, 3) := dk_180 0 45 (dk_at dksX8_laysTraits_1 14 rfl rfl)
theorem dX8_laysTraits_41 : decode cX8_laysTraits 41 = .ok (.iload_n 1, 1) := dk_27 (dk_at dksX8_laysTraits_1 17 rfl rfl)
theorem dX8_laysTraits_42 : decode cX8_laysTraits 42 = .ok (.iconst 0, 1) := dk_3 (dk_at dksX8_laysTraits_1 18 rfl rfl)
theorem dX8_laysTraits_43 : decode cX8_laysTraits 43 = .ok (.iastore, 1) := dk_79 (dk_at dksX8_laysTraits_1 19 rfl rfl)
theorem dX8_laysTraits_44 : decode cX8_laysTraits 44 = .ok (.iconst 0, 1) := dk_3 (dk_at dksX8_laysTraits_1 20 rfl rfl)
theorem dX8_laysTraits_45 : decode cX8_laysTraits 45 = .ok (.istore 4, 2) := dk_54 4 (dk_at dksX8_laysTraits_1 21 rfl rfl)
theorem dX8_laysTraits_47 : decode cX8_laysTraits 47 = .ok (.iload 4, 2) := dk_21 4 (dk_at dksX8_laysTraits_2 0 rfl rfl)
theorem dX8_laysTraits_49 : decode cX8_laysTraits 49 = .ok (.iconst 3, 1) := dk_6 (dk_at dksX8_laysTraits_2 2 rfl rfl)
theorem dX8_laysTraits_50 : decode cX8_laysTraits 50 = .ok (.if_icmp .gt 37, 3) := dk_163 0 37 (dk_at dksX8_laysTraits_2 3 rfl rfl)
theorem dX8_laysTraits_53 : decode cX8_laysTraits 53 = .ok (.aload_n 0, 1) := dk_42 (dk_at dksX8_laysTraits_2 6 rfl rfl)
theorem dX8_laysTraits_54 : decode cX8_laysTraits 54 = .ok (.getfield 45, 3) := dk_180 0 45 (dk_at dksX8_laysTraits_2 7 rfl rfl)
theorem dX8_laysTraits_57 : decode cX8_laysTraits 57 = .ok (.iload_n 1, 1) := dk_27 (dk_at dksX8_laysTraits_2 10 rfl rfl)
theorem dX8_laysTraits_58 : decode cX8_laysTraits 58 = .ok (.dup2, 1) := dk_92 (dk_at dksX8_laysTraits_2 11 rfl rfl)
theorem dX8_laysTraits_59 : decode cX8_laysTraits 59 = .ok (.iaload, 1) := dk_46 (dk_at dksX8_laysTraits_2 12 rfl rfl)
theorem dX8_laysTraits_60 : decode cX8_laysTraits 60 = .ok (.aload_n 0, 1) := dk_42 (dk_at dksX8_laysTraits_2 13 rfl rfl)
theorem dX8_laysTraits_61 : decode cX8_laysTraits 61 = .ok (.iload_n 1, 1) := dk_27 (dk_at dksX8_laysTraits_2 14 rfl rfl)
theorem dX8_laysTraits_62 : decode cX8_laysTraits 62 = .ok (.iload 4, 2) := dk_21 4 (dk_at dksX8_laysTraits_2 15 rfl rfl)
theorem dX8_laysTraits_64 : decode cX8_laysTraits 64 = .ok (.invokevirtual 365, 3) := dk_182 1 109 (dk_at dksX8_laysTraits_2 17 rfl rfl)
theorem dX8_laysTraits_67 : decode cX8_laysTraits 67 = .ok (.iconst (-1), 1) := dk_2 (dk_at dksX8_laysTraits_2 20 rfl rfl)
theorem dX8_laysTraits_68 : decode cX8_laysTraits 68 = .ok (.if_icmp .ne 7, 3) := dk_160 0 7 (dk_at dksX8_laysTraits_2 21 rfl rfl)
theorem dX8_laysTraits_71 : decode cX8_laysTraits 71 = .ok (.iconst 0, 1) := dk_3 (dk_at dksX8_laysTraits_3 0 rfl rfl)
theorem dX8_laysTraits_72 : decode cX8_laysTraits 72 = .ok (.goto 7, 3) := dk_167 0 7 (dk_at dksX8_laysTraits_3 1 rfl rfl)
theorem dX8_laysTraits_75 : decode cX8_laysTraits 75 = .ok (.iconst 1, 1) := dk_4 (dk_at dksX8_laysTraits_3 4 rfl rfl)
theorem dX8_laysTraits_76 : decode cX8_laysTraits 76 = .ok (.iload 4, 2) := dk_21 4 (dk_at dksX8_laysTraits_3 5 rfl rfl)
theorem dX8_laysTraits_78 : decode cX8_laysTraits 78 = .ok (.ishl, 1) := dk_120 (dk_at dksX8_laysTraits_3 7 rfl rfl)
theorem dX8_laysTraits_79 : decode cX8_laysTraits 79 = .ok (.ior, 1) := dk_128 (dk_at dksX8_laysTraits_3 8 rfl rfl)
theorem dX8_laysTraits_80 : decode cX8_laysTraits 80 = .ok (.iastore, 1) := dk_79 (dk_at dksX8_laysTraits_3 9 rfl rfl)
theorem dX8_laysTraits_81 : decode cX8_laysTraits 81 = .ok (.iinc 4 1, 3) := dk_132 4 1 (dk_at dksX8_laysTraits_3 10 rfl rfl)
theorem dX8_laysTraits_84 : decode cX8_laysTraits 84 = .ok (.goto (-37), 3) := dk_167 255 219 (dk_at dksX8_laysTraits_3 13 rfl rfl)
theorem dX8_laysTraits_87 : decode cX8_laysTraits 87 = .ok (.iinc 1 1, 3) := dk_132 1 1 (dk_at dksX8_laysTraits_3 16 rfl rfl)
theorem dX8_laysTraits_90 : decode cX8_laysTraits 90 = .ok (.goto (-88), 3) := dk_167 255 168 (dk_at dksX8_laysTraits_3 19 rfl rfl)
theorem dX8_laysTraits_93 : decode cX8_laysTraits 93 = .ok (.return_, 1) := dk_177 (dk_at dksX8_laysTraits_3 22 rfl rfl)
abbrev cX8_numberOfAll : ByteArray := prog_19_method_71_code
def yX8_numberOfAll : MethodName := ⟨RX8, "numberOfAll", "(I)J"⟩
def dkwX8_numberOfAll_3 : List UInt8 := [167, 255, 214, 32, 173]
abbrev dktX8_numberOfAll_3 : List UInt8 := dkwX8_numberOfAll_3 ++ []
def dkwX8_numberOfAll_2 : List UInt8 := [182, 1, 42, 133, 97, 20, 1, 103, 105, 42, 27, 21, 4, 182, 1, 45, 133, 97, 65, 132, 4, 1]
abbrev dktX8_numberOfAll_2 : List UInt8 := dkwX8_numberOfAll_2 ++ dktX8_numberOfAll_3
def dkwX8_numberOfAll_1 : List UInt8 := [54, 4, 21, 4, 42, 27, 3, 182, 0, 78, 162, 0, 37, 20, 1, 101, 32, 105, 42, 27, 21, 4]
abbrev dktX8_numberOfAll_1 : List UInt8 := dkwX8_numberOfAll_1 ++ dktX8_numberOfAll_2
def dkwX8_numberOfAll_0 : List UInt8 := [20, 1, 99, 42, 27, 3, 182, 0, 78, 133, 105, 42, 27, 4, 182, 0, 78, 133, 97, 10, 97, 65, 3]
abbrev dktX8_numberOfAll_0 : List UInt8 := dkwX8_numberOfAll_0 ++ dktX8_numberOfAll_1
theorem dksX8_numberOfAll_0 : cX8_numberOfAll.data.toList.drop 0 = dktX8_numberOfAll_0 := by decide +kernel
theorem dksX8_numberOfAll_1 : cX8_numberOfAll.data.toList.drop 23 = dktX8_numberOfAll_1 := dk_seg dksX8_numberOfAll_0 23 rfl rfl
theorem dksX8_numberOfAll_2 : cX8_numberOfAll.data.toList.drop 45 = dktX8_numberOfAll_2 := dk_seg dksX8_numberOfAll_1 22 rfl rfl
theorem dksX8_numberOfAll_3 : cX8_numberOfAll.data.toList.drop 67 = dktX8_numberOfAll_3 := dk_seg dksX8_numberOfAll_2 22 rfl rfl
theorem dX8_numberOfAll_0 : decode cX8_numberOfAll 0 = .ok (.ldc2_w 355, 3) := dk_20 1 99 (dk_at dksX8_numberOfAll_0 0 rfl rfl)
theorem dX8_numberOfAll_3 : decode cX8_numberOfAll 3 = .ok (.aload_n 0, 1) := dk_42 (dk_at dksX8_numberOfAll_0 3 rfl rfl)
theorem dX8_numberOfAll_4 : decode cX8_numberOfAll 4 = .ok (.iload_n 1, 1) := dk_27 (dk_at dksX8_numberOfAll_0 4 rfl rfl)
theorem dX8_numberOfAll_5 : decode cX8_numberOfAll 5 = .ok (.iconst 0, 1) := dk_3 (dk_at dksX8_numberOfAll_0 5 rfl rfl)
theorem dX8_numberOfAll_6 : decode cX8_numberOfAll 6 = .ok (.invokevirtual 78, 3) := dk_182 0 78 (dk_at dksX8_numberOfAll_0 6 rfl rfl)
theorem dX8_numberOfAll_9 : decode cX8_numberOfAll 9 = .ok (.i2l, 1) := dk_133 (dk_at dksX8_numberOfAll_0 9 rfl rfl)
theorem dX8_numberOfAll_10 : decode cX8_numberOfAll 10 = .ok (.lmul, 1) := dk_105 (dk_at dksX8_numberOfAll_0 10 rfl rfl)
theorem dX8_numberOfAll_11 : decode cX8_numberOfAll 11 = .ok (.aload_n 0, 1) := dk_42 (dk_at dksX8_numberOfAll_0 11 rfl rfl)
theorem dX8_numberOfAll_12 : decode cX8_numberOfAll 12 = .ok (.iload_n 1, 1) := dk_27 (dk_at dksX8_numberOfAll_0 12 rfl rfl)
theorem dX8_numberOfAll_13 : decode cX8_numberOfAll 13 = .ok (.iconst 1, 1) := dk_4 (dk_at dksX8_numberOfAll_0 13 rfl rfl)
theorem dX8_numberOfAll_14 : decode cX8_numberOfAll 14 = .ok (.invokevirtual 78, 3) := dk_182 0 78 (dk_at dksX8_numberOfAll_0 14 rfl rfl)
theorem dX8_numberOfAll_17 : decode cX8_numberOfAll 17 = .ok (.i2l, 1) := dk_133 (dk_at dksX8_numberOfAll_0 17 rfl rfl)
theorem dX8_numberOfAll_18 : decode cX8_numberOfAll 18 = .ok (.ladd, 1) := dk_97 (dk_at dksX8_numberOfAll_0 18 rfl rfl)
theorem dX8_numberOfAll_19 : decode cX8_numberOfAll 19 = .ok (.lconst 1, 1) := dk_10 (dk_at dksX8_numberOfAll_0 19 rfl rfl)
theorem dX8_numberOfAll_20 : decode cX8_numberOfAll 20 = .ok (.ladd, 1) := dk_97 (dk_at dksX8_numberOfAll_0 20 rfl rfl)
theorem dX8_numberOfAll_21 : decode cX8_numberOfAll 21 = .ok (.lstore_n 2, 1) := dk_65 (dk_at dksX8_numberOfAll_0 21 rfl rfl)
theorem dX8_numberOfAll_22 : decode cX8_numberOfAll 22 = .ok (.iconst 0, 1) := dk_3 (dk_at dksX8_numberOfAll_0 22 rfl rfl)
theorem dX8_numberOfAll_23 : decode cX8_numberOfAll 23 = .ok (.istore 4, 2) := dk_54 4 (dk_at dksX8_numberOfAll_1 0 rfl rfl)
theorem dX8_numberOfAll_25 : decode cX8_numberOfAll 25 = .ok (.iload 4, 2) := dk_21 4 (dk_at dksX8_numberOfAll_1 2 rfl rfl)
theorem dX8_numberOfAll_27 : decode cX8_numberOfAll 27 = .ok (.aload_n 0, 1) := dk_42 (dk_at dksX8_numberOfAll_1 4 rfl rfl)
theorem dX8_numberOfAll_28 : decode cX8_numberOfAll 28 = .ok (.iload_n 1, 1) := dk_27 (dk_at dksX8_numberOfAll_1 5 rfl rfl)
theorem dX8_numberOfAll_29 : decode cX8_numberOfAll 29 = .ok (.iconst 0, 1) := dk_3 (dk_at dksX8_numberOfAll_1 6 rfl rfl)
theorem dX8_numberOfAll_30 : decode cX8_numberOfAll 30 = .ok (.invokevirtual 78, 3) := dk_182 0 78 (dk_at dksX8_numberOfAll_1 7 rfl rfl)
theorem dX8_numberOfAll_33 : decode cX8_numberOfAll 33 = .ok (.if_icmp .ge 37, 3) := dk_162 0 37 (dk_at dksX8_numberOfAll_1 10 rfl rfl)
theorem dX8_numberOfAll_36 : decode cX8_numberOfAll 36 = .ok (.ldc2_w 357, 3) := dk_20 1 101 (dk_at dksX8_numberOfAll_1 13 rfl rfl)
theorem dX8_numberOfAll_39 : decode cX8_numberOfAll 39 = .ok (.lload_n 2, 1) := dk_32 (dk_at dksX8_numberOfAll_1 16 rfl rfl)
theorem dX8_numberOfAll_40 : decode cX8_numberOfAll 40 = .ok (.lmul, 1) := dk_105 (dk_at dksX8_numberOfAll_1 17 rfl rfl)
theorem dX8_numberOfAll_41 : decode cX8_numberOfAll 41 = .ok (.aload_n 0, 1) := dk_42 (dk_at dksX8_numberOfAll_1 18 rfl rfl)
theorem dX8_numberOfAll_42 : decode cX8_numberOfAll 42 = .ok (.iload_n 1, 1) := dk_27 (dk_at dksX8_numberOfAll_1 19 rfl rfl)
theorem dX8_numberOfAll_43 : decode cX8_numberOfAll 43 = .ok (.iload 4, 2) := dk_21 4 (dk_at dksX8_numberOfAll_1 20 rfl rfl)
theorem dX8_numberOfAll_45 : decode cX8_numberOfAll 45 = .ok (.invokevirtual 298, 3) := dk_182 1 42 (dk_at dksX8_numberOfAll_2 0 rfl rfl)
theorem dX8_numberOfAll_48 : decode cX8_numberOfAll 48 = .ok (.i2l, 1) := dk_133 (dk_at dksX8_numberOfAll_2 3 rfl rfl)
theorem dX8_numberOfAll_49 : decode cX8_numberOfAll 49 = .ok (.ladd, 1) := dk_97 (dk_at dksX8_numberOfAll_2 4 rfl rfl)
theorem dX8_numberOfAll_50 : decode cX8_numberOfAll 50 = .ok (.ldc2_w 359, 3) := dk_20 1 103 (dk_at dksX8_numberOfAll_2 5 rfl rfl)
theorem dX8_numberOfAll_53 : decode cX8_numberOfAll 53 = .ok (.lmul, 1) := dk_105 (dk_at dksX8_numberOfAll_2 8 rfl rfl)
theorem dX8_numberOfAll_54 : decode cX8_numberOfAll 54 = .ok (.aload_n 0, 1) := dk_42 (dk_at dksX8_numberOfAll_2 9 rfl rfl)
theorem dX8_numberOfAll_55 : decode cX8_numberOfAll 55 = .ok (.iload_n 1, 1) := dk_27 (dk_at dksX8_numberOfAll_2 10 rfl rfl)
theorem dX8_numberOfAll_56 : decode cX8_numberOfAll 56 = .ok (.iload 4, 2) := dk_21 4 (dk_at dksX8_numberOfAll_2 11 rfl rfl)
theorem dX8_numberOfAll_58 : decode cX8_numberOfAll 58 = .ok (.invokevirtual 301, 3) := dk_182 1 45 (dk_at dksX8_numberOfAll_2 13 rfl rfl)
theorem dX8_numberOfAll_61 : decode cX8_numberOfAll 61 = .ok (.i2l, 1) := dk_133 (dk_at dksX8_numberOfAll_2 16 rfl rfl)
theorem dX8_numberOfAll_62 : decode cX8_numberOfAll 62 = .ok (.ladd, 1) := dk_97 (dk_at dksX8_numberOfAll_2 17 rfl rfl)
theorem dX8_numberOfAll_63 : decode cX8_numberOfAll 63 = .ok (.lstore_n 2, 1) := dk_65 (dk_at dksX8_numberOfAll_2 18 rfl rfl)
theorem dX8_numberOfAll_64 : decode cX8_numberOfAll 64 = .ok (.iinc 4 1, 3) := dk_132 4 1 (dk_at dksX8_numberOfAll_2 19 rfl rfl)
theorem dX8_numberOfAll_67 : decode cX8_numberOfAll 67 = .ok (.goto (-42), 3) := dk_167 255 214 (dk_at dksX8_numberOfAll_3 0 rfl rfl)
theorem dX8_numberOfAll_70 : decode cX8_numberOfAll 70 = .ok (.lload_n 2, 1) := dk_32 (dk_at dksX8_numberOfAll_3 3 rfl rfl)
theorem dX8_numberOfAll_71 : decode cX8_numberOfAll 71 = .ok (.lreturn, 1) := dk_173 (dk_at dksX8_numberOfAll_3 4 rfl rfl)
abbrev cX8_kindOf : ByteArray := prog_19_method_15_code
def yX8_kindOf : MethodName := ⟨RX8, "kindOf", "(II)I"⟩
def dkwX8_kindOf_0 : List UInt8 := [42, 27, 6, 5, 28, 104, 96, 182, 0, 78, 172]
abbrev dktX8_kindOf_0 : List UInt8 := dkwX8_kindOf_0 ++ []
theorem dksX8_kindOf_0 : cX8_kindOf.data.toList.drop 0 = dktX8_kindOf_0 := by decide +kernel
theorem dX8_kindOf_0 : decode cX8_kindOf 0 = .ok (.aload_n 0, 1) := dk_42 (dk_at dksX8_kindOf_0 0 rfl rfl)
theorem dX8_kindOf_1 : decode cX8_kindOf 1 = .ok (.iload_n 1, 1) := dk_27 (dk_at dksX8_kindOf_0 1 rfl rfl)
theorem dX8_kindOf_2 : decode cX8_kindOf 2 = .ok (.iconst 3, 1) := dk_6 (dk_at dksX8_kindOf_0 2 rfl rfl)
theorem dX8_kindOf_3 : decode cX8_kindOf 3 = .ok (.iconst 2, 1) := dk_5 (dk_at dksX8_kindOf_0 3 rfl rfl)
theorem dX8_kindOf_4 : decode cX8_kindOf 4 = .ok (.iload_n 2, 1) := dk_28 (dk_at dksX8_kindOf_0 4 rfl rfl)
theorem dX8_kindOf_5 : decode cX8_kindOf 5 = .ok (.imul, 1) := dk_104 (dk_at dksX8_kindOf_0 5 rfl rfl)
theorem dX8_kindOf_6 : decode cX8_kindOf 6 = .ok (.iadd, 1) := dk_96 (dk_at dksX8_kindOf_0 6 rfl rfl)
theorem dX8_kindOf_7 : decode cX8_kindOf 7 = .ok (.invokevirtual 78, 3) := dk_182 0 78 (dk_at dksX8_kindOf_0 7 rfl rfl)
theorem dX8_kindOf_10 : decode cX8_kindOf 10 = .ok (.ireturn, 1) := dk_172 (dk_at dksX8_kindOf_0 10 rfl rfl)
abbrev cX8_numberOf : ByteArray := prog_19_method_16_code
def yX8_numberOf : MethodName := ⟨RX8, "numberOf", "(II)I"⟩
def dkwX8_numberOf_0 : List UInt8 := [42, 27, 6, 5, 28, 104, 96, 4, 96, 182, 0, 78, 172]
abbrev dktX8_numberOf_0 : List UInt8 := dkwX8_numberOf_0 ++ []
theorem dksX8_numberOf_0 : cX8_numberOf.data.toList.drop 0 = dktX8_numberOf_0 := by decide +kernel
theorem dX8_numberOf_0 : decode cX8_numberOf 0 = .ok (.aload_n 0, 1) := dk_42 (dk_at dksX8_numberOf_0 0 rfl rfl)
theorem dX8_numberOf_1 : decode cX8_numberOf 1 = .ok (.iload_n 1, 1) := dk_27 (dk_at dksX8_numberOf_0 1 rfl rfl)
theorem dX8_numberOf_2 : decode cX8_numberOf 2 = .ok (.iconst 3, 1) := dk_6 (dk_at dksX8_numberOf_0 2 rfl rfl)
theorem dX8_numberOf_3 : decode cX8_numberOf 3 = .ok (.iconst 2, 1) := dk_5 (dk_at dksX8_numberOf_0 3 rfl rfl)
theorem dX8_numberOf_4 : decode cX8_numberOf 4 = .ok (.iload_n 2, 1) := dk_28 (dk_at dksX8_numberOf_0 4 rfl rfl)
theorem dX8_numberOf_5 : decode cX8_numberOf 5 = .ok (.imul, 1) := dk_104 (dk_at dksX8_numberOf_0 5 rfl rfl)
theorem dX8_numberOf_6 : decode cX8_numberOf 6 = .ok (.iadd, 1) := dk_96 (dk_at dksX8_numberOf_0 6 rfl rfl)
theorem dX8_numberOf_7 : decode cX8_numberOf 7 = .ok (.iconst 1, 1) := dk_4 (dk_at dksX8_numberOf_0 7 rfl rfl)
theorem dX8_numberOf_8 : decode cX8_numberOf 8 = .ok (.iadd, 1) := dk_96 (dk_at dksX8_numberOf_0 8 rfl rfl)
theorem dX8_numberOf_9 : decode cX8_numberOf 9 = .ok (.invokevirtual 78, 3) := dk_182 0 78 (dk_at dksX8_numberOf_0 9 rfl rfl)
theorem dX8_numberOf_12 : decode cX8_numberOf 12 = .ok (.ireturn, 1) := dk_172 (dk_at dksX8_numberOf_0 12 rfl rfl)
abbrev cX8_witnessOf : ByteArray := prog_19_method_70_code
def yX8_witnessOf : MethodName := ⟨RX8, "witnessOf", "(II)I"⟩
def dkwX8_witnessOf_1 : List UInt8 := [167, 255, 236, 29, 17, 2, 0, 160, 0, 7, 2, 167, 0, 4, 29, 172]
abbrev dktX8_witnessOf_1 : List UInt8 := dkwX8_witnessOf_1 ++ []
def dkwX8_witnessOf_0 : List UInt8 := [3, 62, 29, 17, 2, 0, 162, 0, 19, 42, 27, 28, 29, 182, 1, 96, 154, 0, 9, 132, 3, 1]
abbrev dktX8_witnessOf_0 : List UInt8 := dkwX8_witnessOf_0 ++ dktX8_witnessOf_1
theorem dksX8_witnessOf_0 : cX8_witnessOf.data.toList.drop 0 = dktX8_witnessOf_0 := by decide +kernel
theorem dksX8_witnessOf_1 : cX8_witnessOf.data.toList.drop 22 = dktX8_witnessOf_1 := dk_seg dksX8_witnessOf_0 22 rfl rfl
theorem dX8_witnessOf_0 : decode cX8_witnessOf 0 = .ok (.iconst 0, 1) := dk_3 (dk_at dksX8_witnessOf_0 0 rfl rfl)
theorem dX8_witnessOf_1 : decode cX8_witnessOf 1 = .ok (.istore_n 3, 1) := dk_62 (dk_at dksX8_witnessOf_0 1 rfl rfl)
theorem dX8_witnessOf_2 : decode cX8_witnessOf 2 = .ok (.iload_n 3, 1) := dk_29 (dk_at dksX8_witnessOf_0 2 rfl rfl)
theorem dX8_witnessOf_3 : decode cX8_witnessOf 3 = .ok (.sipush 512, 3) := dk_17 2 0 (dk_at dksX8_witnessOf_0 3 rfl rfl)
theorem dX8_witnessOf_6 : decode cX8_witnessOf 6 = .ok (.if_icmp .ge 19, 3) := dk_162 0 19 (dk_at dksX8_witnessOf_0 6 rfl rfl)
theorem dX8_witnessOf_9 : decode cX8_witnessOf 9 = .ok (.aload_n 0, 1) := dk_42 (dk_at dksX8_witnessOf_0 9 rfl rfl)
theorem dX8_witnessOf_10 : decode cX8_witnessOf 10 = .ok (.iload_n 1, 1) := dk_27 (dk_at dksX8_witnessOf_0 10 rfl rfl)
theorem dX8_witnessOf_11 : decode cX8_witnessOf 11 = .ok (.iload_n 2, 1) := dk_28 (dk_at dksX8_witnessOf_0 11 rfl rfl)
theorem dX8_witnessOf_12 : decode cX8_witnessOf 12 = .ok (.iload_n 3, 1) := dk_29 (dk_at dksX8_witnessOf_0 12 rfl rfl)
theorem dX8_witnessOf_13 : decode cX8_witnessOf 13 = .ok (.invokevirtual 352, 3) := dk_182 1 96 (dk_at dksX8_witnessOf_0 13 rfl rfl)
theorem dX8_witnessOf_16 : decode cX8_witnessOf 16 = .ok (.ifCond .ne 9, 3) := dk_154 0 9 (dk_at dksX8_witnessOf_0 16 rfl rfl)
theorem dX8_witnessOf_19 : decode cX8_witnessOf 19 = .ok (.iinc 3 1, 3) := dk_132 3 1 (dk_at dksX8_witnessOf_0 19 rfl rfl)
theorem dX8_witnessOf_22 : decode cX8_witnessOf 22 = .ok (.goto (-20), 3) := dk_167 255 236 (dk_at dksX8_witnessOf_1 0 rfl rfl)
theorem dX8_witnessOf_25 : decode cX8_witnessOf 25 = .ok (.iload_n 3, 1) := dk_29 (dk_at dksX8_witnessOf_1 3 rfl rfl)
theorem dX8_witnessOf_26 : decode cX8_witnessOf 26 = .ok (.sipush 512, 3) := dk_17 2 0 (dk_at dksX8_witnessOf_1 4 rfl rfl)
theorem dX8_witnessOf_29 : decode cX8_witnessOf 29 = .ok (.if_icmp .ne 7, 3) := dk_160 0 7 (dk_at dksX8_witnessOf_1 7 rfl rfl)
theorem dX8_witnessOf_32 : decode cX8_witnessOf 32 = .ok (.iconst (-1), 1) := dk_2 (dk_at dksX8_witnessOf_1 10 rfl rfl)
theorem dX8_witnessOf_33 : decode cX8_witnessOf 33 = .ok (.goto 4, 3) := dk_167 0 4 (dk_at dksX8_witnessOf_1 11 rfl rfl)
theorem dX8_witnessOf_36 : decode cX8_witnessOf 36 = .ok (.iload_n 3, 1) := dk_29 (dk_at dksX8_witnessOf_1 14 rfl rfl)
theorem dX8_witnessOf_37 : decode cX8_witnessOf 37 = .ok (.ireturn, 1) := dk_172 (dk_at dksX8_witnessOf_1 15 rfl rfl)
abbrev cX8_isSoIn : ByteArray := prog_19_method_69_code
def yX8_isSoIn : MethodName := ⟨RX8, "isSoIn", "(III)Z"⟩
def dkwX8_isSoIn_1 : List UInt8 := [167, 0, 23, 28, 5, 160, 0, 12, 42, 27, 29, 182, 1, 90, 167, 0, 9, 42, 27, 29, 182, 1, 93, 172]
abbrev dktX8_isSoIn_1 : List UInt8 := dkwX8_isSoIn_1 ++ []
def dkwX8_isSoIn_0 : List UInt8 := [28, 154, 0, 12, 42, 27, 29, 182, 1, 84, 167, 0, 37, 28, 4, 160, 0, 12, 42, 27, 29, 182, 1, 87]
abbrev dktX8_isSoIn_0 : List UInt8 := dkwX8_isSoIn_0 ++ dktX8_isSoIn_1
theorem dksX8_isSoIn_0 : cX8_isSoIn.data.toList.drop 0 = dktX8_isSoIn_0 := by decide +kernel
theorem dksX8_isSoIn_1 : cX8_isSoIn.data.toList.drop 24 = dktX8_isSoIn_1 := dk_seg dksX8_isSoIn_0 24 rfl rfl
theorem dX8_isSoIn_0 : decode cX8_isSoIn 0 = .ok (.iload_n 2, 1) := dk_28 (dk_at dksX8_isSoIn_0 0 rfl rfl)
theorem dX8_isSoIn_1 : decode cX8_isSoIn 1 = .ok (.ifCond .ne 12, 3) := dk_154 0 12 (dk_at dksX8_isSoIn_0 1 rfl rfl)
theorem dX8_isSoIn_4 : decode cX8_isSoIn 4 = .ok (.aload_n 0, 1) := dk_42 (dk_at dksX8_isSoIn_0 4 rfl rfl)
theorem dX8_isSoIn_5 : decode cX8_isSoIn 5 = .ok (.iload_n 1, 1) := dk_27 (dk_at dksX8_isSoIn_0 5 rfl rfl)
theorem dX8_isSoIn_6 : decode cX8_isSoIn 6 = .ok (.iload_n 3, 1) := dk_29 (dk_at dksX8_isSoIn_0 6 rfl rfl)
theorem dX8_isSoIn_7 : decode cX8_isSoIn 7 = .ok (.invokevirtual 340, 3) := dk_182 1 84 (dk_at dksX8_isSoIn_0 7 rfl rfl)
theorem dX8_isSoIn_10 : decode cX8_isSoIn 10 = .ok (.goto 37, 3) := dk_167 0 37 (dk_at dksX8_isSoIn_0 10 rfl rfl)
theorem dX8_isSoIn_13 : decode cX8_isSoIn 13 = .ok (.iload_n 2, 1) := dk_28 (dk_at dksX8_isSoIn_0 13 rfl rfl)
theorem dX8_isSoIn_14 : decode cX8_isSoIn 14 = .ok (.iconst 1, 1) := dk_4 (dk_at dksX8_isSoIn_0 14 rfl rfl)
theorem dX8_isSoIn_15 : decode cX8_isSoIn 15 = .ok (.if_icmp .ne 12, 3) := dk_160 0 12 (dk_at dksX8_isSoIn_0 15 rfl rfl)
theorem dX8_isSoIn_18 : decode cX8_isSoIn 18 = .ok (.aload_n 0, 1) := dk_42 (dk_at dksX8_isSoIn_0 18 rfl rfl)
theorem dX8_isSoIn_19 : decode cX8_isSoIn 19 = .ok (.iload_n 1, 1) := dk_27 (dk_at dksX8_isSoIn_0 19 rfl rfl)
theorem dX8_isSoIn_20 : decode cX8_isSoIn 20 = .ok (.iload_n 3, 1) := dk_29 (dk_at dksX8_isSoIn_0 20 rfl rfl)
theorem dX8_isSoIn_21 : decode cX8_isSoIn 21 = .ok (.invokevirtual 343, 3) := dk_182 1 87 (dk_at dksX8_isSoIn_0 21 rfl rfl)
theorem dX8_isSoIn_24 : decode cX8_isSoIn 24 = .ok (.goto 23, 3) := dk_167 0 23 (dk_at dksX8_isSoIn_1 0 rfl rfl)
theorem dX8_isSoIn_27 : decode cX8_isSoIn 27 = .ok (.iload_n 2, 1) := dk_28 (dk_at dksX8_isSoIn_1 3 rfl rfl)
theorem dX8_isSoIn_28 : decode cX8_isSoIn 28 = .ok (.iconst 2, 1) := dk_5 (dk_at dksX8_isSoIn_1 4 rfl rfl)
theorem dX8_isSoIn_29 : decode cX8_isSoIn 29 = .ok (.if_icmp .ne 12, 3) := dk_160 0 12 (dk_at dksX8_isSoIn_1 5 rfl rfl)
theorem dX8_isSoIn_32 : decode cX8_isSoIn 32 = .ok (.aload_n 0, 1) := dk_42 (dk_at dksX8_isSoIn_1 8 rfl rfl)
theorem dX8_isSoIn_33 : decode cX8_isSoIn 33 = .ok (.iload_n 1, 1) := dk_27 (dk_at dksX8_isSoIn_1 9 rfl rfl)
theorem dX8_isSoIn_34 : decode cX8_isSoIn 34 = .ok (.iload_n 3, 1) := dk_29 (dk_at dksX8_isSoIn_1 10 rfl rfl)
theorem dX8_isSoIn_35 : decode cX8_isSoIn 35 = .ok (.invokevirtual 346, 3) := dk_182 1 90 (dk_at dksX8_isSoIn_1 11 rfl rfl)
theorem dX8_isSoIn_38 : decode cX8_isSoIn 38 = .ok (.goto 9, 3) := dk_167 0 9 (dk_at dksX8_isSoIn_1 14 rfl rfl)
theorem dX8_isSoIn_41 : decode cX8_isSoIn 41 = .ok (.aload_n 0, 1) := dk_42 (dk_at dksX8_isSoIn_1 17 rfl rfl)
theorem dX8_isSoIn_42 : decode cX8_isSoIn 42 = .ok (.iload_n 1, 1) := dk_27 (dk_at dksX8_isSoIn_1 18 rfl rfl)
theorem dX8_isSoIn_43 : decode cX8_isSoIn 43 = .ok (.iload_n 3, 1) := dk_29 (dk_at dksX8_isSoIn_1 19 rfl rfl)
theorem dX8_isSoIn_44 : decode cX8_isSoIn 44 = .ok (.invokevirtual 349, 3) := dk_182 1 93 (dk_at dksX8_isSoIn_1 20 rfl rfl)
theorem dX8_isSoIn_47 : decode cX8_isSoIn 47 = .ok (.ireturn, 1) := dk_172 (dk_at dksX8_isSoIn_1 23 rfl rfl)
abbrev cX8_isControlIn : ByteArray := prog_19_method_63_code
def yX8_isControlIn : MethodName := ⟨RX8, "isControlIn", "(II)Z"⟩
def dkwX8_isControlIn_2 : List UInt8 := [167, 0, 4, 3, 172]
abbrev dktX8_isControlIn_2 : List UInt8 := dkwX8_isControlIn_2 ++ []
def dkwX8_isControlIn_1 : List UInt8 := [42, 180, 1, 33, 28, 184, 1, 55, 160, 0, 14, 42, 180, 1, 27, 28, 184, 1, 51, 159, 0, 7, 4]
abbrev dktX8_isControlIn_1 : List UInt8 := dkwX8_isControlIn_1 ++ dktX8_isControlIn_2
def dkwX8_isControlIn_0 : List UInt8 := [42, 27, 28, 184, 1, 55, 182, 1, 62, 153, 0, 5, 3, 172, 42, 28, 182, 1, 65, 42, 27, 182, 1, 69]
abbrev dktX8_isControlIn_0 : List UInt8 := dkwX8_isControlIn_0 ++ dktX8_isControlIn_1
theorem dksX8_isControlIn_0 : cX8_isControlIn.data.toList.drop 0 = dktX8_isControlIn_0 := by decide +kernel
theorem dksX8_isControlIn_1 : cX8_isControlIn.data.toList.drop 24 = dktX8_isControlIn_1 := dk_seg dksX8_isControlIn_0 24 rfl rfl
theorem dksX8_isControlIn_2 : cX8_isControlIn.data.toList.drop 47 = dktX8_isControlIn_2 := dk_seg dksX8_isControlIn_1 23 rfl rfl
theorem dX8_isControlIn_0 : decode cX8_isControlIn 0 = .ok (.aload_n 0, 1) := dk_42 (dk_at dksX8_isControlIn_0 0 rfl rfl)
theorem dX8_isControlIn_1 : decode cX8_isControlIn 1 = .ok (.iload_n 1, 1) := dk_27 (dk_at dksX8_isControlIn_0 1 rfl rfl)
theorem dX8_isControlIn_2 : decode cX8_isControlIn 2 = .ok (.iload_n 2, 1) := dk_28 (dk_at dksX8_isControlIn_0 2 rfl rfl)
theorem dX8_isControlIn_3 : decode cX8_isControlIn 3 = .ok (.invokestatic 311, 3) := dk_184 1 55 (dk_at dksX8_isControlIn_0 3 rfl rfl)
theorem dX8_isControlIn_6 : decode cX8_isControlIn 6 = .ok (.invokevirtual 318, 3) := dk_182 1 62 (dk_at dksX8_isControlIn_0 6 rfl rfl)
theorem dX8_isControlIn_9 : decode cX8_isControlIn 9 = .ok (.ifCond .eq 5, 3) := dk_153 0 5 (dk_at dksX8_isControlIn_0 9 rfl rfl)
theorem dX8_isControlIn_12 : decode cX8_isControlIn 12 = .ok (.iconst 0, 1) := dk_3 (dk_at dksX8_isControlIn_0 12 rfl rfl)
theorem dX8_isControlIn_13 : decode cX8_isControlIn 13 = .ok (.ireturn, 1) := dk_172 (dk_at dksX8_isControlIn_0 13 rfl rfl)
theorem dX8_isControlIn_14 : decode cX8_isControlIn 14 = .ok (.aload_n 0, 1) := dk_42 (dk_at dksX8_isControlIn_0 14 rfl rfl)
theorem dX8_isControlIn_15 : decode cX8_isControlIn 15 = .ok (.iload_n 2, 1) := dk_28 (dk_at dksX8_isControlIn_0 15 rfl rfl)
theorem dX8_isControlIn_16 : decode cX8_isControlIn 16 = .ok (.invokevirtual 321, 3) := dk_182 1 65 (dk_at dksX8_isControlIn_0 16 rfl rfl)
theorem dX8_isControlIn_19 : decode cX8_isControlIn 19 = .ok (.aload_n 0, 1) := dk_42 (dk_at dksX8_isControlIn_0 19 rfl rfl)
theorem dX8_isControlIn_20 : decode cX8_isControlIn 20 = .ok (.iload_n 1, 1) := dk_27 (dk_at dksX8_isControlIn_0 20 rfl rfl)
theorem dX8_isControlIn_21 : decode cX8_isControlIn 21 = .ok (.invokevirtual 325, 3) := dk_182 1 69 (dk_at dksX8_isControlIn_0 21 rfl rfl)
theorem dX8_isControlIn_24 : decode cX8_isControlIn 24 = .ok (.aload_n 0, 1) := dk_42 (dk_at dksX8_isControlIn_1 0 rfl rfl)
theorem dX8_isControlIn_25 : decode cX8_isControlIn 25 = .ok (.getfield 289, 3) := dk_180 1 33 (dk_at dksX8_isControlIn_1 1 rfl rfl)
theorem dX8_isControlIn_28 : decode cX8_isControlIn 28 = .ok (.iload_n 2, 1) := dk_28 (dk_at dksX8_isControlIn_1 4 rfl rfl)
theorem dX8_isControlIn_29 : decode cX8_isControlIn 29 = .ok (.invokestatic 311, 3) := dk_184 1 55 (dk_at dksX8_isControlIn_1 5 rfl rfl)
theorem dX8_isControlIn_32 : decode cX8_isControlIn 32 = .ok (.if_icmp .ne 14, 3) := dk_160 0 14 (dk_at dksX8_isControlIn_1 8 rfl rfl)
theorem dX8_isControlIn_35 : decode cX8_isControlIn 35 = .ok (.aload_n 0, 1) := dk_42 (dk_at dksX8_isControlIn_1 11 rfl rfl)
theorem dX8_isControlIn_36 : decode cX8_isControlIn 36 = .ok (.getfield 283, 3) := dk_180 1 27 (dk_at dksX8_isControlIn_1 12 rfl rfl)
theorem dX8_isControlIn_39 : decode cX8_isControlIn 39 = .ok (.iload_n 2, 1) := dk_28 (dk_at dksX8_isControlIn_1 15 rfl rfl)
theorem dX8_isControlIn_40 : decode cX8_isControlIn 40 = .ok (.invokestatic 307, 3) := dk_184 1 51 (dk_at dksX8_isControlIn_1 16 rfl rfl)
theorem dX8_isControlIn_43 : decode cX8_isControlIn 43 = .ok (.if_icmp .eq 7, 3) := dk_159 0 7 (dk_at dksX8_isControlIn_1 19 rfl rfl)
theorem dX8_isControlIn_46 : decode cX8_isControlIn 46 = .ok (.iconst 1, 1) := dk_4 (dk_at dksX8_isControlIn_1 22 rfl rfl)
theorem dX8_isControlIn_47 : decode cX8_isControlIn 47 = .ok (.goto 4, 3) := dk_167 0 4 (dk_at dksX8_isControlIn_2 0 rfl rfl)
theorem dX8_isControlIn_50 : decode cX8_isControlIn 50 = .ok (.iconst 0, 1) := dk_3 (dk_at dksX8_isControlIn_2 3 rfl rfl)
theorem dX8_isControlIn_51 : decode cX8_isControlIn 51 = .ok (.ireturn, 1) := dk_172 (dk_at dksX8_isControlIn_2 4 rfl rfl)
abbrev cX8_modeOf : ByteArray := prog_19_method_59_code
def yX8_modeOf : MethodName := ⟨RX8, "modeOf", "(I)I"⟩
def dkwX8_modeOf_0 : List UInt8 := [26, 7, 108, 5, 112, 172]
abbrev dktX8_modeOf_0 : List UInt8 := dkwX8_modeOf_0 ++ []
theorem dksX8_modeOf_0 : cX8_modeOf.data.toList.drop 0 = dktX8_modeOf_0 := by decide +kernel
theorem dX8_modeOf_0 : decode cX8_modeOf 0 = .ok (.iload_n 0, 1) := dk_26 (dk_at dksX8_modeOf_0 0 rfl rfl)
theorem dX8_modeOf_1 : decode cX8_modeOf 1 = .ok (.iconst 4, 1) := dk_7 (dk_at dksX8_modeOf_0 1 rfl rfl)
theorem dX8_modeOf_2 : decode cX8_modeOf 2 = .ok (.idiv, 1) := dk_108 (dk_at dksX8_modeOf_0 2 rfl rfl)
theorem dX8_modeOf_3 : decode cX8_modeOf 3 = .ok (.iconst 2, 1) := dk_5 (dk_at dksX8_modeOf_0 3 rfl rfl)
theorem dX8_modeOf_4 : decode cX8_modeOf 4 = .ok (.irem, 1) := dk_112 (dk_at dksX8_modeOf_0 4 rfl rfl)
theorem dX8_modeOf_5 : decode cX8_modeOf 5 = .ok (.ireturn, 1) := dk_172 (dk_at dksX8_modeOf_0 5 rfl rfl)
abbrev cX8_trapsIn : ByteArray := prog_19_method_62_code
def yX8_trapsIn : MethodName := ⟨RX8, "trapsIn", "(II)Z"⟩
def dkwX8_trapsIn_0 : List UInt8 := [42, 27, 4, 182, 0, 78, 4, 160, 0, 11, 28, 154, 0, 7, 4, 167, 0, 4, 3, 172]
abbrev dktX8_trapsIn_0 : List UInt8 := dkwX8_trapsIn_0 ++ []
theorem dksX8_trapsIn_0 : cX8_trapsIn.data.toList.drop 0 = dktX8_trapsIn_0 := by decide +kernel
theorem dX8_trapsIn_0 : decode cX8_trapsIn 0 = .ok (.aload_n 0, 1) := dk_42 (dk_at dksX8_trapsIn_0 0 rfl rfl)
theorem dX8_trapsIn_1 : decode cX8_trapsIn 1 = .ok (.iload_n 1, 1) := dk_27 (dk_at dksX8_trapsIn_0 1 rfl rfl)
theorem dX8_trapsIn_2 : decode cX8_trapsIn 2 = .ok (.iconst 1, 1) := dk_4 (dk_at dksX8_trapsIn_0 2 rfl rfl)
theorem dX8_trapsIn_3 : decode cX8_trapsIn 3 = .ok (.invokevirtual 78, 3) := dk_182 0 78 (dk_at dksX8_trapsIn_0 3 rfl rfl)
theorem dX8_trapsIn_6 : decode cX8_trapsIn 6 = .ok (.iconst 1, 1) := dk_4 (dk_at dksX8_trapsIn_0 6 rfl rfl)
theorem dX8_trapsIn_7 : decode cX8_trapsIn 7 = .ok (.if_icmp .ne 11, 3) := dk_160 0 11 (dk_at dksX8_trapsIn_0 7 rfl rfl)
theorem dX8_trapsIn_10 : decode cX8_trapsIn 10 = .ok (.iload_n 2, 1) := dk_28 (dk_at dksX8_trapsIn_0 10 rfl rfl)
theorem dX8_trapsIn_11 : decode cX8_trapsIn 11 = .ok (.ifCond .ne 7, 3) := dk_154 0 7 (dk_at dksX8_trapsIn_0 11 rfl rfl)
theorem dX8_trapsIn_14 : decode cX8_trapsIn 14 = .ok (.iconst 1, 1) := dk_4 (dk_at dksX8_trapsIn_0 14 rfl rfl)
theorem dX8_trapsIn_15 : decode cX8_trapsIn 15 = .ok (.goto 4, 3) := dk_167 0 4 (dk_at dksX8_trapsIn_0 15 rfl rfl)
theorem dX8_trapsIn_18 : decode cX8_trapsIn 18 = .ok (.iconst 0, 1) := dk_3 (dk_at dksX8_trapsIn_0 18 rfl rfl)
theorem dX8_trapsIn_19 : decode cX8_trapsIn 19 = .ok (.ireturn, 1) := dk_172 (dk_at dksX8_trapsIn_0 19 rfl rfl)
abbrev cX8_isNow : ByteArray := prog_19_method_61_code
def yX8_isNow : MethodName := ⟨RX8, "isNow", "(I)V"⟩
def dkwX8_isNow_0 : List UInt8 := [42, 27, 27, 184, 1, 55, 27, 184, 1, 51, 3, 3, 182, 1, 58, 177]
abbrev dktX8_isNow_0 : List UInt8 := dkwX8_isNow_0 ++ []
theorem dksX8_isNow_0 : cX8_isNow.data.toList.drop 0 = dktX8_isNow_0 := by decide +kernel
theorem dX8_isNow_0 : decode cX8_isNow 0 = .ok (.aload_n 0, 1) := dk_42 (dk_at dksX8_isNow_0 0 rfl rfl)
theorem dX8_isNow_1 : decode cX8_isNow 1 = .ok (.iload_n 1, 1) := dk_27 (dk_at dksX8_isNow_0 1 rfl rfl)
theorem dX8_isNow_2 : decode cX8_isNow 2 = .ok (.iload_n 1, 1) := dk_27 (dk_at dksX8_isNow_0 2 rfl rfl)
theorem dX8_isNow_3 : decode cX8_isNow 3 = .ok (.invokestatic 311, 3) := dk_184 1 55 (dk_at dksX8_isNow_0 3 rfl rfl)
theorem dX8_isNow_6 : decode cX8_isNow 6 = .ok (.iload_n 1, 1) := dk_27 (dk_at dksX8_isNow_0 6 rfl rfl)
theorem dX8_isNow_7 : decode cX8_isNow 7 = .ok (.invokestatic 307, 3) := dk_184 1 51 (dk_at dksX8_isNow_0 7 rfl rfl)
theorem dX8_isNow_10 : decode cX8_isNow 10 = .ok (.iconst 0, 1) := dk_3 (dk_at dksX8_isNow_0 10 rfl rfl)
theorem dX8_isNow_11 : decode cX8_isNow 11 = .ok (.iconst 0, 1) := dk_3 (dk_at dksX8_isNow_0 11 rfl rfl)
theorem dX8_isNow_12 : decode cX8_isNow 12 = .ok (.invokevirtual 314, 3) := dk_182 1 58 (dk_at dksX8_isNow_0 12 rfl rfl)
theorem dX8_isNow_15 : decode cX8_isNow 15 = .ok (.return_, 1) := dk_177 (dk_at dksX8_isNow_0 15 rfl rfl)
abbrev cX8_baseOf : ByteArray := prog_19_method_60_code
def yX8_baseOf : MethodName := ⟨RX8, "baseOf", "(I)I"⟩
def dkwX8_baseOf_0 : List UInt8 := [5, 26, 16, 8, 108, 7, 112, 104, 172]
abbrev dktX8_baseOf_0 : List UInt8 := dkwX8_baseOf_0 ++ []
theorem dksX8_baseOf_0 : cX8_baseOf.data.toList.drop 0 = dktX8_baseOf_0 := by decide +kernel
theorem dX8_baseOf_0 : decode cX8_baseOf 0 = .ok (.iconst 2, 1) := dk_5 (dk_at dksX8_baseOf_0 0 rfl rfl)
theorem dX8_baseOf_1 : decode cX8_baseOf 1 = .ok (.iload_n 0, 1) := dk_26 (dk_at dksX8_baseOf_0 1 rfl rfl)
theorem dX8_baseOf_2 : decode cX8_baseOf 2 = .ok (.bipush 8, 2) := dk_16 8 (dk_at dksX8_baseOf_0 2 rfl rfl)
theorem dX8_baseOf_4 : decode cX8_baseOf 4 = .ok (.idiv, 1) := dk_108 (dk_at dksX8_baseOf_0 4 rfl rfl)
theorem dX8_baseOf_5 : decode cX8_baseOf 5 = .ok (.iconst 4, 1) := dk_7 (dk_at dksX8_baseOf_0 5 rfl rfl)
theorem dX8_baseOf_6 : decode cX8_baseOf 6 = .ok (.irem, 1) := dk_112 (dk_at dksX8_baseOf_0 6 rfl rfl)
theorem dX8_baseOf_7 : decode cX8_baseOf 7 = .ok (.imul, 1) := dk_104 (dk_at dksX8_baseOf_0 7 rfl rfl)
theorem dX8_baseOf_8 : decode cX8_baseOf 8 = .ok (.ireturn, 1) := dk_172 (dk_at dksX8_baseOf_0 8 rfl rfl)
abbrev cX8_isLike : ByteArray := prog_19_method_58_code
def yX8_isLike : MethodName := ⟨RX8, "isLike", "(IIIIZ)V"⟩
def dkwX8_isLike_3 : List UInt8 := [16, 8, 112, 104, 21, 6, 7, 108, 96, 7, 112, 79, 132, 8, 1, 167, 255, 219, 177]
abbrev dktX8_isLike_3 : List UInt8 := dkwX8_isLike_3 ++ []
def dkwX8_isLike_2 : List UInt8 := [54, 8, 21, 8, 16, 8, 162, 0, 36, 42, 180, 0, 39, 21, 8, 21, 6, 7, 112, 21, 8, 21, 7, 96]
abbrev dktX8_isLike_2 : List UInt8 := dkwX8_isLike_2 ++ dktX8_isLike_3
def dkwX8_isLike_1 : List UInt8 := [16, 32, 108, 16, 16, 112, 54, 6, 21, 5, 153, 0, 10, 27, 184, 1, 51, 167, 0, 4, 3, 54, 7, 3]
abbrev dktX8_isLike_1 : List UInt8 := dkwX8_isLike_1 ++ dktX8_isLike_2
def dkwX8_isLike_0 : List UInt8 := [42, 27, 7, 112, 181, 1, 30, 42, 28, 181, 1, 33, 42, 29, 181, 1, 27, 42, 21, 4, 181, 1, 36, 27]
abbrev dktX8_isLike_0 : List UInt8 := dkwX8_isLike_0 ++ dktX8_isLike_1
theorem dksX8_isLike_0 : cX8_isLike.data.toList.drop 0 = dktX8_isLike_0 := by decide +kernel
theorem dksX8_isLike_1 : cX8_isLike.data.toList.drop 24 = dktX8_isLike_1 := dk_seg dksX8_isLike_0 24 rfl rfl
theorem dksX8_isLike_2 : cX8_isLike.data.toList.drop 48 = dktX8_isLike_2 := dk_seg dksX8_isLike_1 24 rfl rfl
theorem dksX8_isLike_3 : cX8_isLike.data.toList.drop 72 = dktX8_isLike_3 := dk_seg dksX8_isLike_2 24 rfl rfl
theorem dX8_isLike_0 : decode cX8_isLike 0 = .ok (.aload_n 0, 1) := dk_42 (dk_at dksX8_isLike_0 0 rfl rfl)
theorem dX8_isLike_1 : decode cX8_isLike 1 = .ok (.iload_n 1, 1) := dk_27 (dk_at dksX8_isLike_0 1 rfl rfl)
theorem dX8_isLike_2 : decode cX8_isLike 2 = .ok (.iconst 4, 1) := dk_7 (dk_at dksX8_isLike_0 2 rfl rfl)
theorem dX8_isLike_3 : decode cX8_isLike 3 = .ok (.irem, 1) := dk_112 (dk_at dksX8_isLike_0 3 rfl rfl)
theorem dX8_isLike_4 : decode cX8_isLike 4 = .ok (.putfield 286, 3) := dk_181 1 30 (dk_at dksX8_isLike_0 4 rfl rfl)
theorem dX8_isLike_7 : decode cX8_isLike 7 = .ok (.aload_n 0, 1) := dk_42 (dk_at dksX8_isLike_0 7 rfl rfl)
theorem dX8_isLike_8 : decode cX8_isLike 8 = .ok (.iload_n 2, 1) := dk_28 (dk_at dksX8_isLike_0 8 rfl rfl)
theorem dX8_isLike_9 : decode cX8_isLike 9 = .ok (.putfield 289, 3) := dk_181 1 33 (dk_at dksX8_isLike_0 9 rfl rfl)
theorem dX8_isLike_12 : decode cX8_isLike 12 = .ok (.aload_n 0, 1) := dk_42 (dk_at dksX8_isLike_0 12 rfl rfl)
theorem dX8_isLike_13 : decode cX8_isLike 13 = .ok (.iload_n 3, 1) := dk_29 (dk_at dksX8_isLike_0 13 rfl rfl)
theorem dX8_isLike_14 : decode cX8_isLike 14 = .ok (.putfield 283, 3) := dk_181 1 27 (dk_at dksX8_isLike_0 14 rfl rfl)
theorem dX8_isLike_17 : decode cX8_isLike 17 = .ok (.aload_n 0, 1) := dk_42 (dk_at dksX8_isLike_0 17 rfl rfl)
theorem dX8_isLike_18 : decode cX8_isLike 18 = .ok (.iload 4, 2) := dk_21 4 (dk_at dksX8_isLike_0 18 rfl rfl)
theorem dX8_isLike_20 : decode cX8_isLike 20 = .ok (.putfield 292, 3) := dk_181 1 36 (dk_at dksX8_isLike_0 20 rfl rfl)
theorem dX8_isLike_23 : decode cX8_isLike 23 = .ok (.iload_n 1, 1) := dk_27 (dk_at dksX8_isLike_0 23 rfl rfl)
theorem dX8_isLike_24 : decode cX8_isLike 24 = .ok (.bipush 32, 2) := dk_16 32 (dk_at dksX8_isLike_1 0 rfl rfl)
theorem dX8_isLike_26 : decode cX8_isLike 26 = .ok (.idiv, 1) := dk_108 (dk_at dksX8_isLike_1 2 rfl rfl)
theorem dX8_isLike_27 : decode cX8_isLike 27 = .ok (.bipush 16, 2) := dk_16 16 (dk_at dksX8_isLike_1 3 rfl rfl)
theorem dX8_isLike_29 : decode cX8_isLike 29 = .ok (.irem, 1) := dk_112 (dk_at dksX8_isLike_1 5 rfl rfl)
theorem dX8_isLike_30 : decode cX8_isLike 30 = .ok (.istore 6, 2) := dk_54 6 (dk_at dksX8_isLike_1 6 rfl rfl)
theorem dX8_isLike_32 : decode cX8_isLike 32 = .ok (.iload 5, 2) := dk_21 5 (dk_at dksX8_isLike_1 8 rfl rfl)
theorem dX8_isLike_34 : decode cX8_isLike 34 = .ok (.ifCond .eq 10, 3) := dk_153 0 10 (dk_at dksX8_isLike_1 10 rfl rfl)
theorem dX8_isLike_37 : decode cX8_isLike 37 = .ok (.iload_n 1, 1) := dk_27 (dk_at dksX8_isLike_1 13 rfl rfl)
theorem dX8_isLike_38 : decode cX8_isLike 38 = .ok (.invokestatic 307, 3) := dk_184 1 51 (dk_at dksX8_isLike_1 14 rfl rfl)
theorem dX8_isLike_41 : decode cX8_isLike 41 = .ok (.goto 4, 3) := dk_167 0 4 (dk_at dksX8_isLike_1 17 rfl rfl)
theorem dX8_isLike_44 : decode cX8_isLike 44 = .ok (.iconst 0, 1) := dk_3 (dk_at dksX8_isLike_1 20 rfl rfl)
theorem dX8_isLike_45 : decode cX8_isLike 45 = .ok (.istore 7, 2) := dk_54 7 (dk_at dksX8_isLike_1 21 rfl rfl)
theorem dX8_isLike_47 : decode cX8_isLike 47 = .ok (.iconst 0, 1) := dk_3 (dk_at dksX8_isLike_1 23 rfl rfl)
theorem dX8_isLike_48 : decode cX8_isLike 48 = .ok (.istore 8, 2) := dk_54 8 (dk_at dksX8_isLike_2 0 rfl rfl)
theorem dX8_isLike_50 : decode cX8_isLike 50 = .ok (.iload 8, 2) := dk_21 8 (dk_at dksX8_isLike_2 2 rfl rfl)
theorem dX8_isLike_52 : decode cX8_isLike 52 = .ok (.bipush 8, 2) := dk_16 8 (dk_at dksX8_isLike_2 4 rfl rfl)
theorem dX8_isLike_54 : decode cX8_isLike 54 = .ok (.if_icmp .ge 36, 3) := dk_162 0 36 (dk_at dksX8_isLike_2 6 rfl rfl)
theorem dX8_isLike_57 : decode cX8_isLike 57 = .ok (.aload_n 0, 1) := dk_42 (dk_at dksX8_isLike_2 9 rfl rfl)
theorem dX8_isLike_58 : decode cX8_isLike 58 = .ok (.getfield 39, 3) := dk_180 0 39 (dk_at dksX8_isLike_2 10 rfl rfl)
theorem dX8_isLike_61 : decode cX8_isLike 61 = .ok (.iload 8, 2) := dk_21 8 (dk_at dksX8_isLike_2 13 rfl rfl)
theorem dX8_isLike_63 : decode cX8_isLike 63 = .ok (.iload 6, 2) := dk_21 6 (dk_at dksX8_isLike_2 15 rfl rfl)
theorem dX8_isLike_65 : decode cX8_isLike 65 = .ok (.iconst 4, 1) := dk_7 (dk_at dksX8_isLike_2 17 rfl rfl)
theorem dX8_isLike_66 : decode cX8_isLike 66 = .ok (.irem, 1) := dk_112 (dk_at dksX8_isLike_2 18 rfl rfl)
theorem dX8_isLike_67 : decode cX8_isLike 67 = .ok (.iload 8, 2) := dk_21 8 (dk_at dksX8_isLike_2 19 rfl rfl)
theorem dX8_isLike_69 : decode cX8_isLike 69 = .ok (.iload 7, 2) := dk_21 7 (dk_at dksX8_isLike_2 21 rfl rfl)
theorem dX8_isLike_71 : decode cX8_isLike 71 = .ok (.iadd, 1) := dk_96 (dk_at dksX8_isLike_2 23 rfl rfl)
theorem dX8_isLike_72 : decode cX8_isLike 72 = .ok (.bipush 8, 2) := dk_16 8 (dk_at dksX8_isLike_3 0 rfl rfl)
theorem dX8_isLike_74 : decode cX8_isLike 74 = .ok (.irem, 1) := dk_112 (dk_at dksX8_isLike_3 2 rfl rfl)
theorem dX8_isLike_75 : decode cX8_isLike 75 = .ok (.imul, 1) := dk_104 (dk_at dksX8_isLike_3 3 rfl rfl)
theorem dX8_isLike_76 : decode cX8_isLike 76 = .ok (.iload 6, 2) := dk_21 6 (dk_at dksX8_isLike_3 4 rfl rfl)
theorem dX8_isLike_78 : decode cX8_isLike 78 = .ok (.iconst 4, 1) := dk_7 (dk_at dksX8_isLike_3 6 rfl rfl)
theorem dX8_isLike_79 : decode cX8_isLike 79 = .ok (.idiv, 1) := dk_108 (dk_at dksX8_isLike_3 7 rfl rfl)
theorem dX8_isLike_80 : decode cX8_isLike 80 = .ok (.iadd, 1) := dk_96 (dk_at dksX8_isLike_3 8 rfl rfl)
theorem dX8_isLike_81 : decode cX8_isLike 81 = .ok (.iconst 4, 1) := dk_7 (dk_at dksX8_isLike_3 9 rfl rfl)
theorem dX8_isLike_82 : decode cX8_isLike 82 = .ok (.irem, 1) := dk_112 (dk_at dksX8_isLike_3 10 rfl rfl)
theorem dX8_isLike_83 : decode cX8_isLike 83 = .ok (.iastore, 1) := dk_79 (dk_at dksX8_isLike_3 11 rfl rfl)
theorem dX8_isLike_84 : decode cX8_isLike 84 = .ok (.iinc 8 1, 3) := dk_132 8 1 (dk_at dksX8_isLike_3 12 rfl rfl)
theorem dX8_isLike_87 : decode cX8_isLike 87 = .ok (.goto (-37), 3) := dk_167 255 219 (dk_at dksX8_isLike_3 15 rfl rfl)
theorem dX8_isLike_90 : decode cX8_isLike 90 = .ok (.return_, 1) := dk_177 (dk_at dksX8_isLike_3 18 rfl rfl)
abbrev cX8_does : ByteArray := prog_19_method_57_code
def yX8_does : MethodName := ⟨RX8, "does", "(I)V"⟩
def dkwX8_does_2 : List UInt8 := [160, 0, 11, 42, 180, 1, 33, 4, 160, 0, 7, 4, 167, 0, 4, 3, 61, 132, 3, 1, 167, 255, 198, 177]
abbrev dktX8_does_2 : List UInt8 := dkwX8_does_2 ++ []
def dkwX8_does_1 : List UInt8 := [42, 27, 29, 182, 1, 42, 42, 27, 29, 182, 1, 45, 182, 1, 48, 42, 27, 29, 182, 1, 42, 16, 10]
abbrev dktX8_does_1 : List UInt8 := dkwX8_does_1 ++ dktX8_does_2
def dkwX8_does_0 : List UInt8 := [42, 3, 181, 1, 39, 4, 61, 3, 62, 29, 42, 27, 3, 182, 0, 78, 162, 0, 54, 28, 153, 0, 50, 42]
abbrev dktX8_does_0 : List UInt8 := dkwX8_does_0 ++ dktX8_does_1
theorem dksX8_does_0 : cX8_does.data.toList.drop 0 = dktX8_does_0 := by decide +kernel
theorem dksX8_does_1 : cX8_does.data.toList.drop 24 = dktX8_does_1 := dk_seg dksX8_does_0 24 rfl rfl
theorem dksX8_does_2 : cX8_does.data.toList.drop 47 = dktX8_does_2 := dk_seg dksX8_does_1 23 rfl rfl
theorem dX8_does_0 : decode cX8_does 0 = .ok (.aload_n 0, 1) := dk_42 (dk_at dksX8_does_0 0 rfl rfl)
theorem dX8_does_1 : decode cX8_does 1 = .ok (.iconst 0, 1) := dk_3 (dk_at dksX8_does_0 1 rfl rfl)
theorem dX8_does_2 : decode cX8_does 2 = .ok (.putfield 295, 3) := dk_181 1 39 (dk_at dksX8_does_0 2 rfl rfl)
theorem dX8_does_5 : decode cX8_does 5 = .ok (.iconst 1, 1) := dk_4 (dk_at dksX8_does_0 5 rfl rfl)
theorem dX8_does_6 : decode cX8_does 6 = .ok (.istore_n 2, 1) := dk_61 (dk_at dksX8_does_0 6 rfl rfl)
theorem dX8_does_7 : decode cX8_does 7 = .ok (.iconst 0, 1) := dk_3 (dk_at dksX8_does_0 7 rfl rfl)
theorem dX8_does_8 : decode cX8_does 8 = .ok (.istore_n 3, 1) := dk_62 (dk_at dksX8_does_0 8 rfl rfl)
theorem dX8_does_9 : decode cX8_does 9 = .ok (.iload_n 3, 1) := dk_29 (dk_at dksX8_does_0 9 rfl rfl)
theorem dX8_does_10 : decode cX8_does 10 = .ok (.aload_n 0, 1) := dk_42 (dk_at dksX8_does_0 10 rfl rfl)
theorem dX8_does_11 : decode cX8_does 11 = .ok (.iload_n 1, 1) := dk_27 (dk_at dksX8_does_0 11 rfl rfl)
theorem dX8_does_12 : decode cX8_does 12 = .ok (.iconst 0, 1) := dk_3 (dk_at dksX8_does_0 12 rfl rfl)
theorem dX8_does_13 : decode cX8_does 13 = .ok (.invokevirtual 78, 3) := dk_182 0 78 (dk_at dksX8_does_0 13 rfl rfl)
theorem dX8_does_16 : decode cX8_does 16 = .ok (.if_icmp .ge 54, 3) := dk_162 0 54 (dk_at dksX8_does_0 16 rfl rfl)
theorem dX8_does_19 : decode cX8_does 19 = .ok (.iload_n 2, 1) := dk_28 (dk_at dksX8_does_0 19 rfl rfl)
theorem dX8_does_20 : decode cX8_does 20 = .ok (.ifCond .eq 50, 3) := dk_153 0 50 (dk_at dksX8_does_0 20 rfl rfl)
theorem dX8_does_23 : decode cX8_does 23 = .ok (.aload_n 0, 1) := dk_42 (dk_at dksX8_does_0 23 rfl rfl)
theorem dX8_does_24 : decode cX8_does 24 = .ok (.aload_n 0, 1) := dk_42 (dk_at dksX8_does_1 0 rfl rfl)
theorem dX8_does_25 : decode cX8_does 25 = .ok (.iload_n 1, 1) := dk_27 (dk_at dksX8_does_1 1 rfl rfl)
theorem dX8_does_26 : decode cX8_does 26 = .ok (.iload_n 3, 1) := dk_29 (dk_at dksX8_does_1 2 rfl rfl)
theorem dX8_does_27 : decode cX8_does 27 = .ok (.invokevirtual 298, 3) := dk_182 1 42 (dk_at dksX8_does_1 3 rfl rfl)
theorem dX8_does_30 : decode cX8_does 30 = .ok (.aload_n 0, 1) := dk_42 (dk_at dksX8_does_1 6 rfl rfl)
theorem dX8_does_31 : decode cX8_does 31 = .ok (.iload_n 1, 1) := dk_27 (dk_at dksX8_does_1 7 rfl rfl)
theorem dX8_does_32 : decode cX8_does 32 = .ok (.iload_n 3, 1) := dk_29 (dk_at dksX8_does_1 8 rfl rfl)
theorem dX8_does_33 : decode cX8_does 33 = .ok (.invokevirtual 301, 3) := dk_182 1 45 (dk_at dksX8_does_1 9 rfl rfl)
theorem dX8_does_36 : decode cX8_does 36 = .ok (.invokevirtual 304, 3) := dk_182 1 48 (dk_at dksX8_does_1 12 rfl rfl)
theorem dX8_does_39 : decode cX8_does 39 = .ok (.aload_n 0, 1) := dk_42 (dk_at dksX8_does_1 15 rfl rfl)
theorem dX8_does_40 : decode cX8_does 40 = .ok (.iload_n 1, 1) := dk_27 (dk_at dksX8_does_1 16 rfl rfl)
theorem dX8_does_41 : decode cX8_does 41 = .ok (.iload_n 3, 1) := dk_29 (dk_at dksX8_does_1 17 rfl rfl)
theorem dX8_does_42 : decode cX8_does 42 = .ok (.invokevirtual 298, 3) := dk_182 1 42 (dk_at dksX8_does_1 18 rfl rfl)
theorem dX8_does_45 : decode cX8_does 45 = .ok (.bipush 10, 2) := dk_16 10 (dk_at dksX8_does_1 21 rfl rfl)
theorem dX8_does_47 : decode cX8_does 47 = .ok (.if_icmp .ne 11, 3) := dk_160 0 11 (dk_at dksX8_does_2 0 rfl rfl)
theorem dX8_does_50 : decode cX8_does 50 = .ok (.aload_n 0, 1) := dk_42 (dk_at dksX8_does_2 3 rfl rfl)
theorem dX8_does_51 : decode cX8_does 51 = .ok (.getfield 289, 3) := dk_180 1 33 (dk_at dksX8_does_2 4 rfl rfl)
theorem dX8_does_54 : decode cX8_does 54 = .ok (.iconst 1, 1) := dk_4 (dk_at dksX8_does_2 7 rfl rfl)
theorem dX8_does_55 : decode cX8_does 55 = .ok (.if_icmp .ne 7, 3) := dk_160 0 7 (dk_at dksX8_does_2 8 rfl rfl)
theorem dX8_does_58 : decode cX8_does 58 = .ok (.iconst 1, 1) := dk_4 (dk_at dksX8_does_2 11 rfl rfl)
theorem dX8_does_59 : decode cX8_does 59 = .ok (.goto 4, 3) := dk_167 0 4 (dk_at dksX8_does_2 12 rfl rfl)
theorem dX8_does_62 : decode cX8_does 62 = .ok (.iconst 0, 1) := dk_3 (dk_at dksX8_does_2 15 rfl rfl)
theorem dX8_does_63 : decode cX8_does 63 = .ok (.istore_n 2, 1) := dk_61 (dk_at dksX8_does_2 16 rfl rfl)
theorem dX8_does_64 : decode cX8_does 64 = .ok (.iinc 3 1, 3) := dk_132 3 1 (dk_at dksX8_does_2 17 rfl rfl)
theorem dX8_does_67 : decode cX8_does 67 = .ok (.goto (-58), 3) := dk_167 255 198 (dk_at dksX8_does_2 20 rfl rfl)
theorem dX8_does_70 : decode cX8_does 70 = .ok (.return_, 1) := dk_177 (dk_at dksX8_does_2 23 rfl rfl)
abbrev cX8_isDone : ByteArray := prog_19_method_56_code
def yX8_isDone : MethodName := ⟨RX8, "isDone", "(II)V"⟩
def dkwX8_isDone_7 : List UInt8 := [180, 1, 30, 28, 7, 112, 160, 0, 7, 4, 167, 0, 4, 3, 181, 1, 39, 167, 0, 3, 177]
abbrev dktX8_isDone_7 : List UInt8 := dkwX8_isDone_7 ++ []
def dkwX8_isDone_6 : List UInt8 := [42, 42, 180, 1, 36, 7, 112, 181, 1, 30, 167, 0, 32, 42, 42, 180, 1, 39, 154, 0, 13, 42]
abbrev dktX8_isDone_6 : List UInt8 := dkwX8_isDone_6 ++ dktX8_isDone_7
def dkwX8_isDone_5 : List UInt8 := [42, 42, 180, 1, 27, 5, 108, 181, 1, 30, 167, 0, 56, 42, 42, 180, 1, 33, 181, 1, 30, 167, 0, 45]
abbrev dktX8_isDone_5 : List UInt8 := dkwX8_isDone_5 ++ dktX8_isDone_6
def dkwX8_isDone_4 : List UInt8 := [167, 0, 90, 42, 3, 181, 1, 33, 167, 0, 82, 42, 5, 42, 180, 1, 30, 104, 181, 1, 27, 167, 0, 69]
abbrev dktX8_isDone_4 : List UInt8 := dkwX8_isDone_4 ++ dktX8_isDone_5
def dkwX8_isDone_3 : List UInt8 := [181, 1, 30, 167, 0, 111, 42, 180, 0, 39, 29, 42, 180, 1, 30, 79, 167, 0, 98, 42, 4, 181, 1, 33]
abbrev dktX8_isDone_3 : List UInt8 := dkwX8_isDone_3 ++ dktX8_isDone_4
def dkwX8_isDone_2 : List UInt8 := [42, 42, 180, 1, 30, 28, 96, 7, 112, 181, 1, 30, 167, 0, 124, 42, 42, 180, 0, 39, 29, 46]
abbrev dktX8_isDone_2 : List UInt8 := dkwX8_isDone_2 ++ dktX8_isDone_3
def dkwX8_isDone_1 : List UInt8 := [170, 0, 0, 0, 189, 0, 0, 0, 0, 0, 0, 0, 9, 0, 0, 0, 53, 0, 0, 0, 68, 0, 0, 0, 81, 0, 0, 0, 94, 0, 0, 0, 102, 0, 0, 0, 110, 0, 0, 0, 123, 0, 0, 0, 136, 0, 0, 0, 147, 0, 0, 0, 160]
abbrev dktX8_isDone_1 : List UInt8 := dkwX8_isDone_1 ++ dktX8_isDone_2
def dkwX8_isDone_0 : List UInt8 := [28, 42, 180, 1, 27, 96, 16, 8, 112, 62, 27]
abbrev dktX8_isDone_0 : List UInt8 := dkwX8_isDone_0 ++ dktX8_isDone_1
theorem dksX8_isDone_0 : cX8_isDone.data.toList.drop 0 = dktX8_isDone_0 := by decide +kernel
theorem dksX8_isDone_1 : cX8_isDone.data.toList.drop 11 = dktX8_isDone_1 := dk_seg dksX8_isDone_0 11 rfl rfl
theorem dksX8_isDone_2 : cX8_isDone.data.toList.drop 64 = dktX8_isDone_2 := dk_seg dksX8_isDone_1 53 rfl rfl
theorem dksX8_isDone_3 : cX8_isDone.data.toList.drop 86 = dktX8_isDone_3 := dk_seg dksX8_isDone_2 22 rfl rfl
theorem dksX8_isDone_4 : cX8_isDone.data.toList.drop 110 = dktX8_isDone_4 := dk_seg dksX8_isDone_3 24 rfl rfl
theorem dksX8_isDone_5 : cX8_isDone.data.toList.drop 134 = dktX8_isDone_5 := dk_seg dksX8_isDone_4 24 rfl rfl
theorem dksX8_isDone_6 : cX8_isDone.data.toList.drop 158 = dktX8_isDone_6 := dk_seg dksX8_isDone_5 24 rfl rfl
theorem dksX8_isDone_7 : cX8_isDone.data.toList.drop 180 = dktX8_isDone_7 := dk_seg dksX8_isDone_6 22 rfl rfl
theorem dX8_isDone_0 : decode cX8_isDone 0 = .ok (.iload_n 2, 1) := dk_28 (dk_at dksX8_isDone_0 0 rfl rfl)
theorem dX8_isDone_1 : decode cX8_isDone 1 = .ok (.aload_n 0, 1) := dk_42 (dk_at dksX8_isDone_0 1 rfl rfl)
theorem dX8_isDone_2 : decode cX8_isDone 2 = .ok (.getfield 283, 3) := dk_180 1 27 (dk_at dksX8_isDone_0 2 rfl rfl)
theorem dX8_isDone_5 : decode cX8_isDone 5 = .ok (.iadd, 1) := dk_96 (dk_at dksX8_isDone_0 5 rfl rfl)
theorem dX8_isDone_6 : decode cX8_isDone 6 = .ok (.bipush 8, 2) := dk_16 8 (dk_at dksX8_isDone_0 6 rfl rfl)
theorem dX8_isDone_8 : decode cX8_isDone 8 = .ok (.irem, 1) := dk_112 (dk_at dksX8_isDone_0 8 rfl rfl)
theorem dX8_isDone_9 : decode cX8_isDone 9 = .ok (.istore_n 3, 1) := dk_62 (dk_at dksX8_isDone_0 9 rfl rfl)
theorem dX8_isDone_10 : decode cX8_isDone 10 = .ok (.iload_n 1, 1) := dk_27 (dk_at dksX8_isDone_0 10 rfl rfl)
theorem dX8_isDone_11 : decode cX8_isDone 11 = .ok (.tableswitch 189 0 9 #[53, 68, 81, 94, 102, 110, 123, 136, 147, 160], 53) := by decide +kernel
theorem dX8_isDone_64 : decode cX8_isDone 64 = .ok (.aload_n 0, 1) := dk_42 (dk_at dksX8_isDone_2 0 rfl rfl)
theorem dX8_isDone_65 : decode cX8_isDone 65 = .ok (.aload_n 0, 1) := dk_42 (dk_at dksX8_isDone_2 1 rfl rfl)
theorem dX8_isDone_66 : decode cX8_isDone 66 = .ok (.getfield 286, 3) := dk_180 1 30 (dk_at dksX8_isDone_2 2 rfl rfl)
theorem dX8_isDone_69 : decode cX8_isDone 69 = .ok (.iload_n 2, 1) := dk_28 (dk_at dksX8_isDone_2 5 rfl rfl)
theorem dX8_isDone_70 : decode cX8_isDone 70 = .ok (.iadd, 1) := dk_96 (dk_at dksX8_isDone_2 6 rfl rfl)
theorem dX8_isDone_71 : decode cX8_isDone 71 = .ok (.iconst 4, 1) := dk_7 (dk_at dksX8_isDone_2 7 rfl rfl)
theorem dX8_isDone_72 : decode cX8_isDone 72 = .ok (.irem, 1) := dk_112 (dk_at dksX8_isDone_2 8 rfl rfl)
theorem dX8_isDone_73 : decode cX8_isDone 73 = .ok (.putfield 286, 3) := dk_181 1 30 (dk_at dksX8_isDone_2 9 rfl rfl)
theorem dX8_isDone_76 : decode cX8_isDone 76 = .ok (.goto 124, 3) := dk_167 0 124 (dk_at dksX8_isDone_2 12 rfl rfl)
theorem dX8_isDone_79 : decode cX8_isDone 79 = .ok (.aload_n 0, 1) := dk_42 (dk_at dksX8_isDone_2 15 rfl rfl)
theorem dX8_isDone_80 : decode cX8_isDone 80 = .ok (.aload_n 0, 1) := dk_42 (dk_at dksX8_isDone_2 16 rfl rfl)
theorem dX8_isDone_81 : decode cX8_isDone 81 = .ok (.getfield 39, 3) := dk_180 0 39 (dk_at dksX8_isDone_2 17 rfl rfl)
theorem dX8_isDone_84 : decode cX8_isDone 84 = .ok (.iload_n 3, 1) := dk_29 (dk_at dksX8_isDone_2 20 rfl rfl)
theorem dX8_isDone_85 : decode cX8_isDone 85 = .ok (.iaload, 1) := dk_46 (dk_at dksX8_isDone_2 21 rfl rfl)
theorem dX8_isDone_86 : decode cX8_isDone 86 = .ok (.putfield 286, 3) := dk_181 1 30 (dk_at dksX8_isDone_3 0 rfl rfl)
theorem dX8_isDone_89 : decode cX8_isDone 89 = .ok (.goto 111, 3) := dk_167 0 111 (dk_at dksX8_isDone_3 3 rfl rfl)
theorem dX8_isDone_92 : decode cX8_isDone 92 = .ok (.aload_n 0, 1) := dk_42 (dk_at dksX8_isDone_3 6 rfl rfl)
theorem dX8_isDone_93 : decode cX8_isDone 93 = .ok (.getfield 39, 3) := dk_180 0 39 (dk_at dksX8_isDone_3 7 rfl rfl)
theorem dX8_isDone_96 : decode cX8_isDone 96 = .ok (.iload_n 3, 1) := dk_29 (dk_at dksX8_isDone_3 10 rfl rfl)
theorem dX8_isDone_97 : decode cX8_isDone 97 = .ok (.aload_n 0, 1) := dk_42 (dk_at dksX8_isDone_3 11 rfl rfl)
theorem dX8_isDone_98 : decode cX8_isDone 98 = .ok (.getfield 286, 3) := dk_180 1 30 (dk_at dksX8_isDone_3 12 rfl rfl)
theorem dX8_isDone_101 : decode cX8_isDone 101 = .ok (.iastore, 1) := dk_79 (dk_at dksX8_isDone_3 15 rfl rfl)
theorem dX8_isDone_102 : decode cX8_isDone 102 = .ok (.goto 98, 3) := dk_167 0 98 (dk_at dksX8_isDone_3 16 rfl rfl)
theorem dX8_isDone_105 : decode cX8_isDone 105 = .ok (.aload_n 0, 1) := dk_42 (dk_at dksX8_isDone_3 19 rfl rfl)
theorem dX8_isDone_106 : decode cX8_isDone 106 = .ok (.iconst 1, 1) := dk_4 (dk_at dksX8_isDone_3 20 rfl rfl)
theorem dX8_isDone_107 : decode cX8_isDone 107 = .ok (.putfield 289, 3) := dk_181 1 33 (dk_at dksX8_isDone_3 21 rfl rfl)
theorem dX8_isDone_110 : decode cX8_isDone 110 = .ok (.goto 90, 3) := dk_167 0 90 (dk_at dksX8_isDone_4 0 rfl rfl)
theorem dX8_isDone_113 : decode cX8_isDone 113 = .ok (.aload_n 0, 1) := dk_42 (dk_at dksX8_isDone_4 3 rfl rfl)
theorem dX8_isDone_114 : decode cX8_isDone 114 = .ok (.iconst 0, 1) := dk_3 (dk_at dksX8_isDone_4 4 rfl rfl)
theorem dX8_isDone_115 : decode cX8_isDone 115 = .ok (.putfield 289, 3) := dk_181 1 33 (dk_at dksX8_isDone_4 5 rfl rfl)
theorem dX8_isDone_118 : decode cX8_isDone 118 = .ok (.goto 82, 3) := dk_167 0 82 (dk_at dksX8_isDone_4 8 rfl rfl)
theorem dX8_isDone_121 : decode cX8_isDone 121 = .ok (.aload_n 0, 1) := dk_42 (dk_at dksX8_isDone_4 11 rfl rfl)
theorem dX8_isDone_122 : decode cX8_isDone 122 = .ok (.iconst 2, 1) := dk_5 (dk_at dksX8_isDone_4 12 rfl rfl)
theorem dX8_isDone_123 : decode cX8_isDone 123 = .ok (.aload_n 0, 1) := dk_42 (dk_at dksX8_isDone_4 13 rfl rfl)
theorem dX8_isDone_124 : decode cX8_isDone 124 = .ok (.getfield 286, 3) := dk_180 1 30 (dk_at dksX8_isDone_4 14 rfl rfl)
theorem dX8_isDone_127 : decode cX8_isDone 127 = .ok (.imul, 1) := dk_104 (dk_at dksX8_isDone_4 17 rfl rfl)
theorem dX8_isDone_128 : decode cX8_isDone 128 = .ok (.putfield 283, 3) := dk_181 1 27 (dk_at dksX8_isDone_4 18 rfl rfl)
theorem dX8_isDone_131 : decode cX8_isDone 131 = .ok (.goto 69, 3) := dk_167 0 69 (dk_at dksX8_isDone_4 21 rfl rfl)
theorem dX8_isDone_134 : decode cX8_isDone 134 = .ok (.aload_n 0, 1) := dk_42 (dk_at dksX8_isDone_5 0 rfl rfl)
theorem dX8_isDone_135 : decode cX8_isDone 135 = .ok (.aload_n 0, 1) := dk_42 (dk_at dksX8_isDone_5 1 rfl rfl)
theorem dX8_isDone_136 : decode cX8_isDone 136 = .ok (.getfield 283, 3) := dk_180 1 27 (dk_at dksX8_isDone_5 2 rfl rfl)
theorem dX8_isDone_139 : decode cX8_isDone 139 = .ok (.iconst 2, 1) := dk_5 (dk_at dksX8_isDone_5 5 rfl rfl)
theorem dX8_isDone_140 : decode cX8_isDone 140 = .ok (.idiv, 1) := dk_108 (dk_at dksX8_isDone_5 6 rfl rfl)
theorem dX8_isDone_141 : decode cX8_isDone 141 = .ok (.putfield 286, 3) := dk_181 1 30 (dk_at dksX8_isDone_5 7 rfl rfl)
theorem dX8_isDone_144 : decode cX8_isDone 144 = .ok (.goto 56, 3) := dk_167 0 56 (dk_at dksX8_isDone_5 10 rfl rfl)
theorem dX8_isDone_147 : decode cX8_isDone 147 = .ok (.aload_n 0, 1) := dk_42 (dk_at dksX8_isDone_5 13 rfl rfl)
theorem dX8_isDone_148 : decode cX8_isDone 148 = .ok (.aload_n 0, 1) := dk_42 (dk_at dksX8_isDone_5 14 rfl rfl)
theorem dX8_isDone_149 : decode cX8_isDone 149 = .ok (.getfield 289, 3) := dk_180 1 33 (dk_at dksX8_isDone_5 15 rfl rfl)
theorem dX8_isDone_152 : decode cX8_isDone 152 = .ok (.putfield 286, 3) := dk_181 1 30 (dk_at dksX8_isDone_5 18 rfl rfl)
theorem dX8_isDone_155 : decode cX8_isDone 155 = .ok (.goto 45, 3) := dk_167 0 45 (dk_at dksX8_isDone_5 21 rfl rfl)
theorem dX8_isDone_158 : decode cX8_isDone 158 = .ok (.aload_n 0, 1) := dk_42 (dk_at dksX8_isDone_6 0 rfl rfl)
theorem dX8_isDone_159 : decode cX8_isDone 159 = .ok (.aload_n 0, 1) := dk_42 (dk_at dksX8_isDone_6 1 rfl rfl)
theorem dX8_isDone_160 : decode cX8_isDone 160 = .ok (.getfield 292, 3) := dk_180 1 36 (dk_at dksX8_isDone_6 2 rfl rfl)
theorem dX8_isDone_163 : decode cX8_isDone 163 = .ok (.iconst 4, 1) := dk_7 (dk_at dksX8_isDone_6 5 rfl rfl)
theorem dX8_isDone_164 : decode cX8_isDone 164 = .ok (.irem, 1) := dk_112 (dk_at dksX8_isDone_6 6 rfl rfl)
theorem dX8_isDone_165 : decode cX8_isDone 165 = .ok (.putfield 286, 3) := dk_181 1 30 (dk_at dksX8_isDone_6 7 rfl rfl)
theorem dX8_isDone_168 : decode cX8_isDone 168 = .ok (.goto 32, 3) := dk_167 0 32 (dk_at dksX8_isDone_6 10 rfl rfl)
theorem dX8_isDone_171 : decode cX8_isDone 171 = .ok (.aload_n 0, 1) := dk_42 (dk_at dksX8_isDone_6 13 rfl rfl)
theorem dX8_isDone_172 : decode cX8_isDone 172 = .ok (.aload_n 0, 1) := dk_42 (dk_at dksX8_isDone_6 14 rfl rfl)
theorem dX8_isDone_173 : decode cX8_isDone 173 = .ok (.getfield 295, 3) := dk_180 1 39 (dk_at dksX8_isDone_6 15 rfl rfl)
theorem dX8_isDone_176 : decode cX8_isDone 176 = .ok (.ifCond .ne 13, 3) := dk_154 0 13 (dk_at dksX8_isDone_6 18 rfl rfl)
theorem dX8_isDone_179 : decode cX8_isDone 179 = .ok (.aload_n 0, 1) := dk_42 (dk_at dksX8_isDone_6 21 rfl rfl)
theorem dX8_isDone_180 : decode cX8_isDone 180 = .ok (.getfield 286, 3) := dk_180 1 30 (dk_at dksX8_isDone_7 0 rfl rfl)
theorem dX8_isDone_183 : decode cX8_isDone 183 = .ok (.iload_n 2, 1) := dk_28 (dk_at dksX8_isDone_7 3 rfl rfl)
theorem dX8_isDone_184 : decode cX8_isDone 184 = .ok (.iconst 4, 1) := dk_7 (dk_at dksX8_isDone_7 4 rfl rfl)
theorem dX8_isDone_185 : decode cX8_isDone 185 = .ok (.irem, 1) := dk_112 (dk_at dksX8_isDone_7 5 rfl rfl)
theorem dX8_isDone_186 : decode cX8_isDone 186 = .ok (.if_icmp .ne 7, 3) := dk_160 0 7 (dk_at dksX8_isDone_7 6 rfl rfl)
theorem dX8_isDone_189 : decode cX8_isDone 189 = .ok (.iconst 1, 1) := dk_4 (dk_at dksX8_isDone_7 9 rfl rfl)
theorem dX8_isDone_190 : decode cX8_isDone 190 = .ok (.goto 4, 3) := dk_167 0 4 (dk_at dksX8_isDone_7 10 rfl rfl)
theorem dX8_isDone_193 : decode cX8_isDone 193 = .ok (.iconst 0, 1) := dk_3 (dk_at dksX8_isDone_7 13 rfl rfl)
theorem dX8_isDone_194 : decode cX8_isDone 194 = .ok (.putfield 295, 3) := dk_181 1 39 (dk_at dksX8_isDone_7 14 rfl rfl)
theorem dX8_isDone_197 : decode cX8_isDone 197 = .ok (.goto 3, 3) := dk_167 0 3 (dk_at dksX8_isDone_7 17 rfl rfl)
theorem dX8_isDone_200 : decode cX8_isDone 200 = .ok (.return_, 1) := dk_177 (dk_at dksX8_isDone_7 20 rfl rfl)
abbrev cX8_isModalIn : ByteArray := prog_19_method_66_code
def yX8_isModalIn : MethodName := ⟨RX8, "isModalIn", "(II)Z"⟩
def dkwX8_isModalIn_2 : List UInt8 := [182, 1, 69, 42, 3, 182, 1, 81, 172]
abbrev dktX8_isModalIn_2 : List UInt8 := dkwX8_isModalIn_2 ++ []
def dkwX8_isModalIn_1 : List UInt8 := [42, 27, 182, 1, 69, 42, 182, 1, 78, 42, 28, 4, 28, 184, 1, 51, 3, 3, 182, 1, 58, 42, 27]
abbrev dktX8_isModalIn_1 : List UInt8 := dkwX8_isModalIn_1 ++ dktX8_isModalIn_2
def dkwX8_isModalIn_0 : List UInt8 := [28, 184, 1, 55, 4, 159, 0, 12, 42, 27, 3, 182, 1, 62, 153, 0, 5, 3, 172, 42, 28, 182, 1, 65]
abbrev dktX8_isModalIn_0 : List UInt8 := dkwX8_isModalIn_0 ++ dktX8_isModalIn_1
theorem dksX8_isModalIn_0 : cX8_isModalIn.data.toList.drop 0 = dktX8_isModalIn_0 := by decide +kernel
theorem dksX8_isModalIn_1 : cX8_isModalIn.data.toList.drop 24 = dktX8_isModalIn_1 := dk_seg dksX8_isModalIn_0 24 rfl rfl
theorem dksX8_isModalIn_2 : cX8_isModalIn.data.toList.drop 47 = dktX8_isModalIn_2 := dk_seg dksX8_isModalIn_1 23 rfl rfl
theorem dX8_isModalIn_0 : decode cX8_isModalIn 0 = .ok (.iload_n 2, 1) := dk_28 (dk_at dksX8_isModalIn_0 0 rfl rfl)
theorem dX8_isModalIn_1 : decode cX8_isModalIn 1 = .ok (.invokestatic 311, 3) := dk_184 1 55 (dk_at dksX8_isModalIn_0 1 rfl rfl)
theorem dX8_isModalIn_4 : decode cX8_isModalIn 4 = .ok (.iconst 1, 1) := dk_4 (dk_at dksX8_isModalIn_0 4 rfl rfl)
theorem dX8_isModalIn_5 : decode cX8_isModalIn 5 = .ok (.if_icmp .eq 12, 3) := dk_159 0 12 (dk_at dksX8_isModalIn_0 5 rfl rfl)
theorem dX8_isModalIn_8 : decode cX8_isModalIn 8 = .ok (.aload_n 0, 1) := dk_42 (dk_at dksX8_isModalIn_0 8 rfl rfl)
theorem dX8_isModalIn_9 : decode cX8_isModalIn 9 = .ok (.iload_n 1, 1) := dk_27 (dk_at dksX8_isModalIn_0 9 rfl rfl)
theorem dX8_isModalIn_10 : decode cX8_isModalIn 10 = .ok (.iconst 0, 1) := dk_3 (dk_at dksX8_isModalIn_0 10 rfl rfl)
theorem dX8_isModalIn_11 : decode cX8_isModalIn 11 = .ok (.invokevirtual 318, 3) := dk_182 1 62 (dk_at dksX8_isModalIn_0 11 rfl rfl)
theorem dX8_isModalIn_14 : decode cX8_isModalIn 14 = .ok (.ifCond .eq 5, 3) := dk_153 0 5 (dk_at dksX8_isModalIn_0 14 rfl rfl)
theorem dX8_isModalIn_17 : decode cX8_isModalIn 17 = .ok (.iconst 0, 1) := dk_3 (dk_at dksX8_isModalIn_0 17 rfl rfl)
theorem dX8_isModalIn_18 : decode cX8_isModalIn 18 = .ok (.ireturn, 1) := dk_172 (dk_at dksX8_isModalIn_0 18 rfl rfl)
theorem dX8_isModalIn_19 : decode cX8_isModalIn 19 = .ok (.aload_n 0, 1) := dk_42 (dk_at dksX8_isModalIn_0 19 rfl rfl)
theorem dX8_isModalIn_20 : decode cX8_isModalIn 20 = .ok (.iload_n 2, 1) := dk_28 (dk_at dksX8_isModalIn_0 20 rfl rfl)
theorem dX8_isModalIn_21 : decode cX8_isModalIn 21 = .ok (.invokevirtual 321, 3) := dk_182 1 65 (dk_at dksX8_isModalIn_0 21 rfl rfl)
theorem dX8_isModalIn_24 : decode cX8_isModalIn 24 = .ok (.aload_n 0, 1) := dk_42 (dk_at dksX8_isModalIn_1 0 rfl rfl)
theorem dX8_isModalIn_25 : decode cX8_isModalIn 25 = .ok (.iload_n 1, 1) := dk_27 (dk_at dksX8_isModalIn_1 1 rfl rfl)
theorem dX8_isModalIn_26 : decode cX8_isModalIn 26 = .ok (.invokevirtual 325, 3) := dk_182 1 69 (dk_at dksX8_isModalIn_1 2 rfl rfl)
theorem dX8_isModalIn_29 : decode cX8_isModalIn 29 = .ok (.aload_n 0, 1) := dk_42 (dk_at dksX8_isModalIn_1 5 rfl rfl)
theorem dX8_isModalIn_30 : decode cX8_isModalIn 30 = .ok (.invokevirtual 334, 3) := dk_182 1 78 (dk_at dksX8_isModalIn_1 6 rfl rfl)
theorem dX8_isModalIn_33 : decode cX8_isModalIn 33 = .ok (.aload_n 0, 1) := dk_42 (dk_at dksX8_isModalIn_1 9 rfl rfl)
theorem dX8_isModalIn_34 : decode cX8_isModalIn 34 = .ok (.iload_n 2, 1) := dk_28 (dk_at dksX8_isModalIn_1 10 rfl rfl)
theorem dX8_isModalIn_35 : decode cX8_isModalIn 35 = .ok (.iconst 1, 1) := dk_4 (dk_at dksX8_isModalIn_1 11 rfl rfl)
theorem dX8_isModalIn_36 : decode cX8_isModalIn 36 = .ok (.iload_n 2, 1) := dk_28 (dk_at dksX8_isModalIn_1 12 rfl rfl)
theorem dX8_isModalIn_37 : decode cX8_isModalIn 37 = .ok (.invokestatic 307, 3) := dk_184 1 51 (dk_at dksX8_isModalIn_1 13 rfl rfl)
theorem dX8_isModalIn_40 : decode cX8_isModalIn 40 = .ok (.iconst 0, 1) := dk_3 (dk_at dksX8_isModalIn_1 16 rfl rfl)
theorem dX8_isModalIn_41 : decode cX8_isModalIn 41 = .ok (.iconst 0, 1) := dk_3 (dk_at dksX8_isModalIn_1 17 rfl rfl)
theorem dX8_isModalIn_42 : decode cX8_isModalIn 42 = .ok (.invokevirtual 314, 3) := dk_182 1 58 (dk_at dksX8_isModalIn_1 18 rfl rfl)
theorem dX8_isModalIn_45 : decode cX8_isModalIn 45 = .ok (.aload_n 0, 1) := dk_42 (dk_at dksX8_isModalIn_1 21 rfl rfl)
theorem dX8_isModalIn_46 : decode cX8_isModalIn 46 = .ok (.iload_n 1, 1) := dk_27 (dk_at dksX8_isModalIn_1 22 rfl rfl)
theorem dX8_isModalIn_47 : decode cX8_isModalIn 47 = .ok (.invokevirtual 325, 3) := dk_182 1 69 (dk_at dksX8_isModalIn_2 0 rfl rfl)
theorem dX8_isModalIn_50 : decode cX8_isModalIn 50 = .ok (.aload_n 0, 1) := dk_42 (dk_at dksX8_isModalIn_2 3 rfl rfl)
theorem dX8_isModalIn_51 : decode cX8_isModalIn 51 = .ok (.iconst 0, 1) := dk_3 (dk_at dksX8_isModalIn_2 4 rfl rfl)
theorem dX8_isModalIn_52 : decode cX8_isModalIn 52 = .ok (.invokevirtual 337, 3) := dk_182 1 81 (dk_at dksX8_isModalIn_2 5 rfl rfl)
theorem dX8_isModalIn_55 : decode cX8_isModalIn 55 = .ok (.ireturn, 1) := dk_172 (dk_at dksX8_isModalIn_2 8 rfl rfl)
abbrev cX8_keepsFirst : ByteArray := prog_19_method_64_code
def yX8_keepsFirst : MethodName := ⟨RX8, "keepsFirst", "()V"⟩
def dkwX8_keepsFirst_1 : List UInt8 := [42, 180, 0, 42, 27, 42, 180, 0, 39, 27, 46, 79, 132, 1, 1, 167, 255, 235, 177]
abbrev dktX8_keepsFirst_1 : List UInt8 := dkwX8_keepsFirst_1 ++ []
def dkwX8_keepsFirst_0 : List UInt8 := [42, 42, 180, 1, 30, 181, 1, 72, 42, 42, 180, 1, 39, 181, 1, 75, 3, 60, 27, 16, 8, 162, 0, 21]
abbrev dktX8_keepsFirst_0 : List UInt8 := dkwX8_keepsFirst_0 ++ dktX8_keepsFirst_1
theorem dksX8_keepsFirst_0 : cX8_keepsFirst.data.toList.drop 0 = dktX8_keepsFirst_0 := by decide +kernel
theorem dksX8_keepsFirst_1 : cX8_keepsFirst.data.toList.drop 24 = dktX8_keepsFirst_1 := dk_seg dksX8_keepsFirst_0 24 rfl rfl
theorem dX8_keepsFirst_0 : decode cX8_keepsFirst 0 = .ok (.aload_n 0, 1) := dk_42 (dk_at dksX8_keepsFirst_0 0 rfl rfl)
theorem dX8_keepsFirst_1 : decode cX8_keepsFirst 1 = .ok (.aload_n 0, 1) := dk_42 (dk_at dksX8_keepsFirst_0 1 rfl rfl)
theorem dX8_keepsFirst_2 : decode cX8_keepsFirst 2 = .ok (.getfield 286, 3) := dk_180 1 30 (dk_at dksX8_keepsFirst_0 2 rfl rfl)
theorem dX8_keepsFirst_5 : decode cX8_keepsFirst 5 = .ok (.putfield 328, 3) := dk_181 1 72 (dk_at dksX8_keepsFirst_0 5 rfl rfl)
theorem dX8_keepsFirst_8 : decode cX8_keepsFirst 8 = .ok (.aload_n 0, 1) := dk_42 (dk_at dksX8_keepsFirst_0 8 rfl rfl)
theorem dX8_keepsFirst_9 : decode cX8_keepsFirst 9 = .ok (.aload_n 0, 1) := dk_42 (dk_at dksX8_keepsFirst_0 9 rfl rfl)
theorem dX8_keepsFirst_10 : decode cX8_keepsFirst 10 = .ok (.getfield 295, 3) := dk_180 1 39 (dk_at dksX8_keepsFirst_0 10 rfl rfl)
theorem dX8_keepsFirst_13 : decode cX8_keepsFirst 13 = .ok (.putfield 331, 3) := dk_181 1 75 (dk_at dksX8_keepsFirst_0 13 rfl rfl)
theorem dX8_keepsFirst_16 : decode cX8_keepsFirst 16 = .ok (.iconst 0, 1) := dk_3 (dk_at dksX8_keepsFirst_0 16 rfl rfl)
theorem dX8_keepsFirst_17 : decode cX8_keepsFirst 17 = .ok (.istore_n 1, 1) := dk_60 (dk_at dksX8_keepsFirst_0 17 rfl rfl)
theorem dX8_keepsFirst_18 : decode cX8_keepsFirst 18 = .ok (.iload_n 1, 1) := dk_27 (dk_at dksX8_keepsFirst_0 18 rfl rfl)
theorem dX8_keepsFirst_19 : decode cX8_keepsFirst 19 = .ok (.bipush 8, 2) := dk_16 8 (dk_at dksX8_keepsFirst_0 19 rfl rfl)
theorem dX8_keepsFirst_21 : decode cX8_keepsFirst 21 = .ok (.if_icmp .ge 21, 3) := dk_162 0 21 (dk_at dksX8_keepsFirst_0 21 rfl rfl)
theorem dX8_keepsFirst_24 : decode cX8_keepsFirst 24 = .ok (.aload_n 0, 1) := dk_42 (dk_at dksX8_keepsFirst_1 0 rfl rfl)
theorem dX8_keepsFirst_25 : decode cX8_keepsFirst 25 = .ok (.getfield 42, 3) := dk_180 0 42 (dk_at dksX8_keepsFirst_1 1 rfl rfl)
theorem dX8_keepsFirst_28 : decode cX8_keepsFirst 28 = .ok (.iload_n 1, 1) := dk_27 (dk_at dksX8_keepsFirst_1 4 rfl rfl)
theorem dX8_keepsFirst_29 : decode cX8_keepsFirst 29 = .ok (.aload_n 0, 1) := dk_42 (dk_at dksX8_keepsFirst_1 5 rfl rfl)
theorem dX8_keepsFirst_30 : decode cX8_keepsFirst 30 = .ok (.getfield 39, 3) := dk_180 0 39 (dk_at dksX8_keepsFirst_1 6 rfl rfl)
theorem dX8_keepsFirst_33 : decode cX8_keepsFirst 33 = .ok (.iload_n 1, 1) := dk_27 (dk_at dksX8_keepsFirst_1 9 rfl rfl)
theorem dX8_keepsFirst_34 : decode cX8_keepsFirst 34 = .ok (.iaload, 1) := dk_46 (dk_at dksX8_keepsFirst_1 10 rfl rfl)
theorem dX8_keepsFirst_35 : decode cX8_keepsFirst 35 = .ok (.iastore, 1) := dk_79 (dk_at dksX8_keepsFirst_1 11 rfl rfl)
theorem dX8_keepsFirst_36 : decode cX8_keepsFirst 36 = .ok (.iinc 1 1, 3) := dk_132 1 1 (dk_at dksX8_keepsFirst_1 12 rfl rfl)
theorem dX8_keepsFirst_39 : decode cX8_keepsFirst 39 = .ok (.goto (-21), 3) := dk_167 255 235 (dk_at dksX8_keepsFirst_1 15 rfl rfl)
theorem dX8_keepsFirst_42 : decode cX8_keepsFirst 42 = .ok (.return_, 1) := dk_177 (dk_at dksX8_keepsFirst_1 18 rfl rfl)
abbrev cX8_isUnlike : ByteArray := prog_19_method_65_code
def yX8_isUnlike : MethodName := ⟨RX8, "isUnlike", "(I)Z"⟩
def dkwX8_isUnlike_3 : List UInt8 := [167, 255, 217, 28, 172]
abbrev dktX8_isUnlike_3 : List UInt8 := dkwX8_isUnlike_3 ++ []
def dkwX8_isUnlike_2 : List UInt8 := [16, 8, 112, 46, 42, 180, 0, 39, 29, 46, 159, 0, 7, 4, 167, 0, 4, 3, 61, 132, 3, 1]
abbrev dktX8_isUnlike_2 : List UInt8 := dkwX8_isUnlike_2 ++ dktX8_isUnlike_3
def dkwX8_isUnlike_1 : List UInt8 := [167, 0, 4, 3, 61, 3, 62, 29, 16, 8, 162, 0, 39, 28, 154, 0, 23, 42, 180, 0, 42, 29, 27, 96]
abbrev dktX8_isUnlike_1 : List UInt8 := dkwX8_isUnlike_1 ++ dktX8_isUnlike_2
def dkwX8_isUnlike_0 : List UInt8 := [42, 180, 1, 30, 42, 180, 1, 72, 160, 0, 14, 42, 180, 1, 39, 42, 180, 1, 75, 159, 0, 7, 4]
abbrev dktX8_isUnlike_0 : List UInt8 := dkwX8_isUnlike_0 ++ dktX8_isUnlike_1
theorem dksX8_isUnlike_0 : cX8_isUnlike.data.toList.drop 0 = dktX8_isUnlike_0 := by decide +kernel
theorem dksX8_isUnlike_1 : cX8_isUnlike.data.toList.drop 23 = dktX8_isUnlike_1 := dk_seg dksX8_isUnlike_0 23 rfl rfl
theorem dksX8_isUnlike_2 : cX8_isUnlike.data.toList.drop 47 = dktX8_isUnlike_2 := dk_seg dksX8_isUnlike_1 24 rfl rfl
theorem dksX8_isUnlike_3 : cX8_isUnlike.data.toList.drop 69 = dktX8_isUnlike_3 := dk_seg dksX8_isUnlike_2 22 rfl rfl
theorem dX8_isUnlike_0 : decode cX8_isUnlike 0 = .ok (.aload_n 0, 1) := dk_42 (dk_at dksX8_isUnlike_0 0 rfl rfl)
theorem dX8_isUnlike_1 : decode cX8_isUnlike 1 = .ok (.getfield 286, 3) := dk_180 1 30 (dk_at dksX8_isUnlike_0 1 rfl rfl)
theorem dX8_isUnlike_4 : decode cX8_isUnlike 4 = .ok (.aload_n 0, 1) := dk_42 (dk_at dksX8_isUnlike_0 4 rfl rfl)
theorem dX8_isUnlike_5 : decode cX8_isUnlike 5 = .ok (.getfield 328, 3) := dk_180 1 72 (dk_at dksX8_isUnlike_0 5 rfl rfl)
theorem dX8_isUnlike_8 : decode cX8_isUnlike 8 = .ok (.if_icmp .ne 14, 3) := dk_160 0 14 (dk_at dksX8_isUnlike_0 8 rfl rfl)
theorem dX8_isUnlike_11 : decode cX8_isUnlike 11 = .ok (.aload_n 0, 1) := dk_42 (dk_at dksX8_isUnlike_0 11 rfl rfl)
theorem dX8_isUnlike_12 : decode cX8_isUnlike 12 = .ok (.getfield 295, 3) := dk_180 1 39 (dk_at dksX8_isUnlike_0 12 rfl rfl)
theorem dX8_isUnlike_15 : decode cX8_isUnlike 15 = .ok (.aload_n 0, 1) := dk_42 (dk_at dksX8_isUnlike_0 15 rfl rfl)
theorem dX8_isUnlike_16 : decode cX8_isUnlike 16 = .ok (.getfield 331, 3) := dk_180 1 75 (dk_at dksX8_isUnlike_0 16 rfl rfl)
theorem dX8_isUnlike_19 : decode cX8_isUnlike 19 = .ok (.if_icmp .eq 7, 3) := dk_159 0 7 (dk_at dksX8_isUnlike_0 19 rfl rfl)
theorem dX8_isUnlike_22 : decode cX8_isUnlike 22 = .ok (.iconst 1, 1) := dk_4 (dk_at dksX8_isUnlike_0 22 rfl rfl)
theorem dX8_isUnlike_23 : decode cX8_isUnlike 23 = .ok (.goto 4, 3) := dk_167 0 4 (dk_at dksX8_isUnlike_1 0 rfl rfl)
theorem dX8_isUnlike_26 : decode cX8_isUnlike 26 = .ok (.iconst 0, 1) := dk_3 (dk_at dksX8_isUnlike_1 3 rfl rfl)
theorem dX8_isUnlike_27 : decode cX8_isUnlike 27 = .ok (.istore_n 2, 1) := dk_61 (dk_at dksX8_isUnlike_1 4 rfl rfl)
theorem dX8_isUnlike_28 : decode cX8_isUnlike 28 = .ok (.iconst 0, 1) := dk_3 (dk_at dksX8_isUnlike_1 5 rfl rfl)
theorem dX8_isUnlike_29 : decode cX8_isUnlike 29 = .ok (.istore_n 3, 1) := dk_62 (dk_at dksX8_isUnlike_1 6 rfl rfl)
theorem dX8_isUnlike_30 : decode cX8_isUnlike 30 = .ok (.iload_n 3, 1) := dk_29 (dk_at dksX8_isUnlike_1 7 rfl rfl)
theorem dX8_isUnlike_31 : decode cX8_isUnlike 31 = .ok (.bipush 8, 2) := dk_16 8 (dk_at dksX8_isUnlike_1 8 rfl rfl)
theorem dX8_isUnlike_33 : decode cX8_isUnlike 33 = .ok (.if_icmp .ge 39, 3) := dk_162 0 39 (dk_at dksX8_isUnlike_1 10 rfl rfl)
theorem dX8_isUnlike_36 : decode cX8_isUnlike 36 = .ok (.iload_n 2, 1) := dk_28 (dk_at dksX8_isUnlike_1 13 rfl rfl)
theorem dX8_isUnlike_37 : decode cX8_isUnlike 37 = .ok (.ifCond .ne 23, 3) := dk_154 0 23 (dk_at dksX8_isUnlike_1 14 rfl rfl)
theorem dX8_isUnlike_40 : decode cX8_isUnlike 40 = .ok (.aload_n 0, 1) := dk_42 (dk_at dksX8_isUnlike_1 17 rfl rfl)
theorem dX8_isUnlike_41 : decode cX8_isUnlike 41 = .ok (.getfield 42, 3) := dk_180 0 42 (dk_at dksX8_isUnlike_1 18 rfl rfl)
theorem dX8_isUnlike_44 : decode cX8_isUnlike 44 = .ok (.iload_n 3, 1) := dk_29 (dk_at dksX8_isUnlike_1 21 rfl rfl)
theorem dX8_isUnlike_45 : decode cX8_isUnlike 45 = .ok (.iload_n 1, 1) := dk_27 (dk_at dksX8_isUnlike_1 22 rfl rfl)
theorem dX8_isUnlike_46 : decode cX8_isUnlike 46 = .ok (.iadd, 1) := dk_96 (dk_at dksX8_isUnlike_1 23 rfl rfl)
theorem dX8_isUnlike_47 : decode cX8_isUnlike 47 = .ok (.bipush 8, 2) := dk_16 8 (dk_at dksX8_isUnlike_2 0 rfl rfl)
theorem dX8_isUnlike_49 : decode cX8_isUnlike 49 = .ok (.irem, 1) := dk_112 (dk_at dksX8_isUnlike_2 2 rfl rfl)
theorem dX8_isUnlike_50 : decode cX8_isUnlike 50 = .ok (.iaload, 1) := dk_46 (dk_at dksX8_isUnlike_2 3 rfl rfl)
theorem dX8_isUnlike_51 : decode cX8_isUnlike 51 = .ok (.aload_n 0, 1) := dk_42 (dk_at dksX8_isUnlike_2 4 rfl rfl)
theorem dX8_isUnlike_52 : decode cX8_isUnlike 52 = .ok (.getfield 39, 3) := dk_180 0 39 (dk_at dksX8_isUnlike_2 5 rfl rfl)
theorem dX8_isUnlike_55 : decode cX8_isUnlike 55 = .ok (.iload_n 3, 1) := dk_29 (dk_at dksX8_isUnlike_2 8 rfl rfl)
theorem dX8_isUnlike_56 : decode cX8_isUnlike 56 = .ok (.iaload, 1) := dk_46 (dk_at dksX8_isUnlike_2 9 rfl rfl)
theorem dX8_isUnlike_57 : decode cX8_isUnlike 57 = .ok (.if_icmp .eq 7, 3) := dk_159 0 7 (dk_at dksX8_isUnlike_2 10 rfl rfl)
theorem dX8_isUnlike_60 : decode cX8_isUnlike 60 = .ok (.iconst 1, 1) := dk_4 (dk_at dksX8_isUnlike_2 13 rfl rfl)
theorem dX8_isUnlike_61 : decode cX8_isUnlike 61 = .ok (.goto 4, 3) := dk_167 0 4 (dk_at dksX8_isUnlike_2 14 rfl rfl)
theorem dX8_isUnlike_64 : decode cX8_isUnlike 64 = .ok (.iconst 0, 1) := dk_3 (dk_at dksX8_isUnlike_2 17 rfl rfl)
theorem dX8_isUnlike_65 : decode cX8_isUnlike 65 = .ok (.istore_n 2, 1) := dk_61 (dk_at dksX8_isUnlike_2 18 rfl rfl)
theorem dX8_isUnlike_66 : decode cX8_isUnlike 66 = .ok (.iinc 3 1, 3) := dk_132 3 1 (dk_at dksX8_isUnlike_2 19 rfl rfl)
theorem dX8_isUnlike_69 : decode cX8_isUnlike 69 = .ok (.goto (-39), 3) := dk_167 255 217 (dk_at dksX8_isUnlike_3 0 rfl rfl)
theorem dX8_isUnlike_72 : decode cX8_isUnlike 72 = .ok (.iload_n 2, 1) := dk_28 (dk_at dksX8_isUnlike_3 3 rfl rfl)
theorem dX8_isUnlike_73 : decode cX8_isUnlike 73 = .ok (.ireturn, 1) := dk_172 (dk_at dksX8_isUnlike_3 4 rfl rfl)
abbrev cX8_isLocalIn : ByteArray := prog_19_method_67_code
def yX8_isLocalIn : MethodName := ⟨RX8, "isLocalIn", "(II)Z"⟩
def dkwX8_isLocalIn_2 : List UInt8 := [184, 1, 51, 182, 1, 81, 172]
abbrev dktX8_isLocalIn_2 : List UInt8 := dkwX8_isLocalIn_2 ++ []
def dkwX8_isLocalIn_1 : List UInt8 := [42, 182, 1, 78, 42, 28, 28, 184, 1, 55, 3, 3, 4, 182, 1, 58, 42, 27, 182, 1, 69, 42, 28]
abbrev dktX8_isLocalIn_1 : List UInt8 := dkwX8_isLocalIn_1 ++ dktX8_isLocalIn_2
def dkwX8_isLocalIn_0 : List UInt8 := [42, 27, 28, 184, 1, 55, 182, 1, 62, 153, 0, 5, 3, 172, 42, 28, 182, 1, 65, 42, 27, 182, 1, 69]
abbrev dktX8_isLocalIn_0 : List UInt8 := dkwX8_isLocalIn_0 ++ dktX8_isLocalIn_1
theorem dksX8_isLocalIn_0 : cX8_isLocalIn.data.toList.drop 0 = dktX8_isLocalIn_0 := by decide +kernel
theorem dksX8_isLocalIn_1 : cX8_isLocalIn.data.toList.drop 24 = dktX8_isLocalIn_1 := dk_seg dksX8_isLocalIn_0 24 rfl rfl
theorem dksX8_isLocalIn_2 : cX8_isLocalIn.data.toList.drop 47 = dktX8_isLocalIn_2 := dk_seg dksX8_isLocalIn_1 23 rfl rfl
theorem dX8_isLocalIn_0 : decode cX8_isLocalIn 0 = .ok (.aload_n 0, 1) := dk_42 (dk_at dksX8_isLocalIn_0 0 rfl rfl)
theorem dX8_isLocalIn_1 : decode cX8_isLocalIn 1 = .ok (.iload_n 1, 1) := dk_27 (dk_at dksX8_isLocalIn_0 1 rfl rfl)
theorem dX8_isLocalIn_2 : decode cX8_isLocalIn 2 = .ok (.iload_n 2, 1) := dk_28 (dk_at dksX8_isLocalIn_0 2 rfl rfl)
theorem dX8_isLocalIn_3 : decode cX8_isLocalIn 3 = .ok (.invokestatic 311, 3) := dk_184 1 55 (dk_at dksX8_isLocalIn_0 3 rfl rfl)
theorem dX8_isLocalIn_6 : decode cX8_isLocalIn 6 = .ok (.invokevirtual 318, 3) := dk_182 1 62 (dk_at dksX8_isLocalIn_0 6 rfl rfl)
theorem dX8_isLocalIn_9 : decode cX8_isLocalIn 9 = .ok (.ifCond .eq 5, 3) := dk_153 0 5 (dk_at dksX8_isLocalIn_0 9 rfl rfl)
theorem dX8_isLocalIn_12 : decode cX8_isLocalIn 12 = .ok (.iconst 0, 1) := dk_3 (dk_at dksX8_isLocalIn_0 12 rfl rfl)
theorem dX8_isLocalIn_13 : decode cX8_isLocalIn 13 = .ok (.ireturn, 1) := dk_172 (dk_at dksX8_isLocalIn_0 13 rfl rfl)
theorem dX8_isLocalIn_14 : decode cX8_isLocalIn 14 = .ok (.aload_n 0, 1) := dk_42 (dk_at dksX8_isLocalIn_0 14 rfl rfl)
theorem dX8_isLocalIn_15 : decode cX8_isLocalIn 15 = .ok (.iload_n 2, 1) := dk_28 (dk_at dksX8_isLocalIn_0 15 rfl rfl)
theorem dX8_isLocalIn_16 : decode cX8_isLocalIn 16 = .ok (.invokevirtual 321, 3) := dk_182 1 65 (dk_at dksX8_isLocalIn_0 16 rfl rfl)
theorem dX8_isLocalIn_19 : decode cX8_isLocalIn 19 = .ok (.aload_n 0, 1) := dk_42 (dk_at dksX8_isLocalIn_0 19 rfl rfl)
theorem dX8_isLocalIn_20 : decode cX8_isLocalIn 20 = .ok (.iload_n 1, 1) := dk_27 (dk_at dksX8_isLocalIn_0 20 rfl rfl)
theorem dX8_isLocalIn_21 : decode cX8_isLocalIn 21 = .ok (.invokevirtual 325, 3) := dk_182 1 69 (dk_at dksX8_isLocalIn_0 21 rfl rfl)
theorem dX8_isLocalIn_24 : decode cX8_isLocalIn 24 = .ok (.aload_n 0, 1) := dk_42 (dk_at dksX8_isLocalIn_1 0 rfl rfl)
theorem dX8_isLocalIn_25 : decode cX8_isLocalIn 25 = .ok (.invokevirtual 334, 3) := dk_182 1 78 (dk_at dksX8_isLocalIn_1 1 rfl rfl)
theorem dX8_isLocalIn_28 : decode cX8_isLocalIn 28 = .ok (.aload_n 0, 1) := dk_42 (dk_at dksX8_isLocalIn_1 4 rfl rfl)
theorem dX8_isLocalIn_29 : decode cX8_isLocalIn 29 = .ok (.iload_n 2, 1) := dk_28 (dk_at dksX8_isLocalIn_1 5 rfl rfl)
theorem dX8_isLocalIn_30 : decode cX8_isLocalIn 30 = .ok (.iload_n 2, 1) := dk_28 (dk_at dksX8_isLocalIn_1 6 rfl rfl)
theorem dX8_isLocalIn_31 : decode cX8_isLocalIn 31 = .ok (.invokestatic 311, 3) := dk_184 1 55 (dk_at dksX8_isLocalIn_1 7 rfl rfl)
theorem dX8_isLocalIn_34 : decode cX8_isLocalIn 34 = .ok (.iconst 0, 1) := dk_3 (dk_at dksX8_isLocalIn_1 10 rfl rfl)
theorem dX8_isLocalIn_35 : decode cX8_isLocalIn 35 = .ok (.iconst 0, 1) := dk_3 (dk_at dksX8_isLocalIn_1 11 rfl rfl)
theorem dX8_isLocalIn_36 : decode cX8_isLocalIn 36 = .ok (.iconst 1, 1) := dk_4 (dk_at dksX8_isLocalIn_1 12 rfl rfl)
theorem dX8_isLocalIn_37 : decode cX8_isLocalIn 37 = .ok (.invokevirtual 314, 3) := dk_182 1 58 (dk_at dksX8_isLocalIn_1 13 rfl rfl)
theorem dX8_isLocalIn_40 : decode cX8_isLocalIn 40 = .ok (.aload_n 0, 1) := dk_42 (dk_at dksX8_isLocalIn_1 16 rfl rfl)
theorem dX8_isLocalIn_41 : decode cX8_isLocalIn 41 = .ok (.iload_n 1, 1) := dk_27 (dk_at dksX8_isLocalIn_1 17 rfl rfl)
theorem dX8_isLocalIn_42 : decode cX8_isLocalIn 42 = .ok (.invokevirtual 325, 3) := dk_182 1 69 (dk_at dksX8_isLocalIn_1 18 rfl rfl)
theorem dX8_isLocalIn_45 : decode cX8_isLocalIn 45 = .ok (.aload_n 0, 1) := dk_42 (dk_at dksX8_isLocalIn_1 21 rfl rfl)
theorem dX8_isLocalIn_46 : decode cX8_isLocalIn 46 = .ok (.iload_n 2, 1) := dk_28 (dk_at dksX8_isLocalIn_1 22 rfl rfl)
theorem dX8_isLocalIn_47 : decode cX8_isLocalIn 47 = .ok (.invokestatic 307, 3) := dk_184 1 51 (dk_at dksX8_isLocalIn_2 0 rfl rfl)
theorem dX8_isLocalIn_50 : decode cX8_isLocalIn 50 = .ok (.invokevirtual 337, 3) := dk_182 1 81 (dk_at dksX8_isLocalIn_2 3 rfl rfl)
theorem dX8_isLocalIn_53 : decode cX8_isLocalIn 53 = .ok (.ireturn, 1) := dk_172 (dk_at dksX8_isLocalIn_2 6 rfl rfl)
abbrev cX8_isTimedIn : ByteArray := prog_19_method_68_code
def yX8_isTimedIn : MethodName := ⟨RX8, "isTimedIn", "(II)Z"⟩
def dkwX8_isTimedIn_3 : List UInt8 := [132, 4, 1, 167, 255, 201, 29, 172]
abbrev dktX8_isTimedIn_3 : List UInt8 := dkwX8_isTimedIn_3 ++ []
def dkwX8_isTimedIn_2 : List UInt8 := [184, 1, 55, 28, 184, 1, 51, 21, 4, 3, 182, 1, 58, 42, 27, 182, 1, 69, 42, 3, 182, 1, 81, 62]
abbrev dktX8_isTimedIn_2 : List UInt8 := dkwX8_isTimedIn_2 ++ dktX8_isTimedIn_3
def dkwX8_isTimedIn_1 : List UInt8 := [162, 0, 54, 29, 154, 0, 50, 42, 28, 182, 1, 65, 42, 27, 182, 1, 69, 42, 182, 1, 78, 42, 28, 28]
abbrev dktX8_isTimedIn_1 : List UInt8 := dkwX8_isTimedIn_1 ++ dktX8_isTimedIn_2
def dkwX8_isTimedIn_0 : List UInt8 := [42, 27, 28, 184, 1, 55, 182, 1, 62, 153, 0, 5, 3, 172, 3, 62, 4, 54, 4, 21, 4, 16, 8]
abbrev dktX8_isTimedIn_0 : List UInt8 := dkwX8_isTimedIn_0 ++ dktX8_isTimedIn_1
theorem dksX8_isTimedIn_0 : cX8_isTimedIn.data.toList.drop 0 = dktX8_isTimedIn_0 := by decide +kernel
theorem dksX8_isTimedIn_1 : cX8_isTimedIn.data.toList.drop 23 = dktX8_isTimedIn_1 := dk_seg dksX8_isTimedIn_0 23 rfl rfl
theorem dksX8_isTimedIn_2 : cX8_isTimedIn.data.toList.drop 47 = dktX8_isTimedIn_2 := dk_seg dksX8_isTimedIn_1 24 rfl rfl
theorem dksX8_isTimedIn_3 : cX8_isTimedIn.data.toList.drop 71 = dktX8_isTimedIn_3 := dk_seg dksX8_isTimedIn_2 24 rfl rfl
theorem dX8_isTimedIn_0 : decode cX8_isTimedIn 0 = .ok (.aload_n 0, 1) := dk_42 (dk_at dksX8_isTimedIn_0 0 rfl rfl)
theorem dX8_isTimedIn_1 : decode cX8_isTimedIn 1 = .ok (.iload_n 1, 1) := dk_27 (dk_at dksX8_isTimedIn_0 1 rfl rfl)
theorem dX8_isTimedIn_2 : decode cX8_isTimedIn 2 = .ok (.iload_n 2, 1) := dk_28 (dk_at dksX8_isTimedIn_0 2 rfl rfl)
theorem dX8_isTimedIn_3 : decode cX8_isTimedIn 3 = .ok (.invokestatic 311, 3) := dk_184 1 55 (dk_at dksX8_isTimedIn_0 3 rfl rfl)
theorem dX8_isTimedIn_6 : decode cX8_isTimedIn 6 = .ok (.invokevirtual 318, 3) := dk_182 1 62 (dk_at dksX8_isTimedIn_0 6 rfl rfl)
theorem dX8_isTimedIn_9 : decode cX8_isTimedIn 9 = .ok (.ifCond .eq 5, 3) := dk_153 0 5 (dk_at dksX8_isTimedIn_0 9 rfl rfl)
theorem dX8_isTimedIn_12 : decode cX8_isTimedIn 12 = .ok (.iconst 0, 1) := dk_3 (dk_at dksX8_isTimedIn_0 12 rfl rfl)
theorem dX8_isTimedIn_13 : decode cX8_isTimedIn 13 = .ok (.ireturn, 1) := dk_172 (dk_at dksX8_isTimedIn_0 13 rfl rfl)
theorem dX8_isTimedIn_14 : decode cX8_isTimedIn 14 = .ok (.iconst 0, 1) := dk_3 (dk_at dksX8_isTimedIn_0 14 rfl rfl)
theorem dX8_isTimedIn_15 : decode cX8_isTimedIn 15 = .ok (.istore_n 3, 1) := dk_62 (dk_at dksX8_isTimedIn_0 15 rfl rfl)
theorem dX8_isTimedIn_16 : decode cX8_isTimedIn 16 = .ok (.iconst 1, 1) := dk_4 (dk_at dksX8_isTimedIn_0 16 rfl rfl)
theorem dX8_isTimedIn_17 : decode cX8_isTimedIn 17 = .ok (.istore 4, 2) := dk_54 4 (dk_at dksX8_isTimedIn_0 17 rfl rfl)
theorem dX8_isTimedIn_19 : decode cX8_isTimedIn 19 = .ok (.iload 4, 2) := dk_21 4 (dk_at dksX8_isTimedIn_0 19 rfl rfl)
theorem dX8_isTimedIn_21 : decode cX8_isTimedIn 21 = .ok (.bipush 8, 2) := dk_16 8 (dk_at dksX8_isTimedIn_0 21 rfl rfl)
theorem dX8_isTimedIn_23 : decode cX8_isTimedIn 23 = .ok (.if_icmp .ge 54, 3) := dk_162 0 54 (dk_at dksX8_isTimedIn_1 0 rfl rfl)
theorem dX8_isTimedIn_26 : decode cX8_isTimedIn 26 = .ok (.iload_n 3, 1) := dk_29 (dk_at dksX8_isTimedIn_1 3 rfl rfl)
theorem dX8_isTimedIn_27 : decode cX8_isTimedIn 27 = .ok (.ifCond .ne 50, 3) := dk_154 0 50 (dk_at dksX8_isTimedIn_1 4 rfl rfl)
theorem dX8_isTimedIn_30 : decode cX8_isTimedIn 30 = .ok (.aload_n 0, 1) := dk_42 (dk_at dksX8_isTimedIn_1 7 rfl rfl)
theorem dX8_isTimedIn_31 : decode cX8_isTimedIn 31 = .ok (.iload_n 2, 1) := dk_28 (dk_at dksX8_isTimedIn_1 8 rfl rfl)
theorem dX8_isTimedIn_32 : decode cX8_isTimedIn 32 = .ok (.invokevirtual 321, 3) := dk_182 1 65 (dk_at dksX8_isTimedIn_1 9 rfl rfl)
theorem dX8_isTimedIn_35 : decode cX8_isTimedIn 35 = .ok (.aload_n 0, 1) := dk_42 (dk_at dksX8_isTimedIn_1 12 rfl rfl)
theorem dX8_isTimedIn_36 : decode cX8_isTimedIn 36 = .ok (.iload_n 1, 1) := dk_27 (dk_at dksX8_isTimedIn_1 13 rfl rfl)
theorem dX8_isTimedIn_37 : decode cX8_isTimedIn 37 = .ok (.invokevirtual 325, 3) := dk_182 1 69 (dk_at dksX8_isTimedIn_1 14 rfl rfl)
theorem dX8_isTimedIn_40 : decode cX8_isTimedIn 40 = .ok (.aload_n 0, 1) := dk_42 (dk_at dksX8_isTimedIn_1 17 rfl rfl)
theorem dX8_isTimedIn_41 : decode cX8_isTimedIn 41 = .ok (.invokevirtual 334, 3) := dk_182 1 78 (dk_at dksX8_isTimedIn_1 18 rfl rfl)
theorem dX8_isTimedIn_44 : decode cX8_isTimedIn 44 = .ok (.aload_n 0, 1) := dk_42 (dk_at dksX8_isTimedIn_1 21 rfl rfl)
theorem dX8_isTimedIn_45 : decode cX8_isTimedIn 45 = .ok (.iload_n 2, 1) := dk_28 (dk_at dksX8_isTimedIn_1 22 rfl rfl)
theorem dX8_isTimedIn_46 : decode cX8_isTimedIn 46 = .ok (.iload_n 2, 1) := dk_28 (dk_at dksX8_isTimedIn_1 23 rfl rfl)
theorem dX8_isTimedIn_47 : decode cX8_isTimedIn 47 = .ok (.invokestatic 311, 3) := dk_184 1 55 (dk_at dksX8_isTimedIn_2 0 rfl rfl)
theorem dX8_isTimedIn_50 : decode cX8_isTimedIn 50 = .ok (.iload_n 2, 1) := dk_28 (dk_at dksX8_isTimedIn_2 3 rfl rfl)
theorem dX8_isTimedIn_51 : decode cX8_isTimedIn 51 = .ok (.invokestatic 307, 3) := dk_184 1 51 (dk_at dksX8_isTimedIn_2 4 rfl rfl)
theorem dX8_isTimedIn_54 : decode cX8_isTimedIn 54 = .ok (.iload 4, 2) := dk_21 4 (dk_at dksX8_isTimedIn_2 7 rfl rfl)
theorem dX8_isTimedIn_56 : decode cX8_isTimedIn 56 = .ok (.iconst 0, 1) := dk_3 (dk_at dksX8_isTimedIn_2 9 rfl rfl)
theorem dX8_isTimedIn_57 : decode cX8_isTimedIn 57 = .ok (.invokevirtual 314, 3) := dk_182 1 58 (dk_at dksX8_isTimedIn_2 10 rfl rfl)
theorem dX8_isTimedIn_60 : decode cX8_isTimedIn 60 = .ok (.aload_n 0, 1) := dk_42 (dk_at dksX8_isTimedIn_2 13 rfl rfl)
theorem dX8_isTimedIn_61 : decode cX8_isTimedIn 61 = .ok (.iload_n 1, 1) := dk_27 (dk_at dksX8_isTimedIn_2 14 rfl rfl)
theorem dX8_isTimedIn_62 : decode cX8_isTimedIn 62 = .ok (.invokevirtual 325, 3) := dk_182 1 69 (dk_at dksX8_isTimedIn_2 15 rfl rfl)
theorem dX8_isTimedIn_65 : decode cX8_isTimedIn 65 = .ok (.aload_n 0, 1) := dk_42 (dk_at dksX8_isTimedIn_2 18 rfl rfl)
theorem dX8_isTimedIn_66 : decode cX8_isTimedIn 66 = .ok (.iconst 0, 1) := dk_3 (dk_at dksX8_isTimedIn_2 19 rfl rfl)
theorem dX8_isTimedIn_67 : decode cX8_isTimedIn 67 = .ok (.invokevirtual 337, 3) := dk_182 1 81 (dk_at dksX8_isTimedIn_2 20 rfl rfl)
theorem dX8_isTimedIn_70 : decode cX8_isTimedIn 70 = .ok (.istore_n 3, 1) := dk_62 (dk_at dksX8_isTimedIn_2 23 rfl rfl)
theorem dX8_isTimedIn_71 : decode cX8_isTimedIn 71 = .ok (.iinc 4 1, 3) := dk_132 4 1 (dk_at dksX8_isTimedIn_3 0 rfl rfl)
theorem dX8_isTimedIn_74 : decode cX8_isTimedIn 74 = .ok (.goto (-55), 3) := dk_167 255 201 (dk_at dksX8_isTimedIn_3 3 rfl rfl)
theorem dX8_isTimedIn_77 : decode cX8_isTimedIn 77 = .ok (.iload_n 3, 1) := dk_29 (dk_at dksX8_isTimedIn_3 6 rfl rfl)
theorem dX8_isTimedIn_78 : decode cX8_isTimedIn 78 = .ok (.ireturn, 1) := dk_172 (dk_at dksX8_isTimedIn_3 7 rfl rfl)
abbrev cX8_isSensitive : ByteArray := prog_19_method_73_code
def yX8_isSensitive : MethodName := ⟨RX8, "isSensitive", "(I)Z"⟩
def dkwX8_isSensitive_0 : List UInt8 := [42, 180, 0, 45, 27, 46, 16, 7, 126, 153, 0, 7, 4, 167, 0, 4, 3, 172]
abbrev dktX8_isSensitive_0 : List UInt8 := dkwX8_isSensitive_0 ++ []
theorem dksX8_isSensitive_0 : cX8_isSensitive.data.toList.drop 0 = dktX8_isSensitive_0 := by decide +kernel
theorem dX8_isSensitive_0 : decode cX8_isSensitive 0 = .ok (.aload_n 0, 1) := dk_42 (dk_at dksX8_isSensitive_0 0 rfl rfl)
theorem dX8_isSensitive_1 : decode cX8_isSensitive 1 = .ok (.getfield 45, 3) := dk_180 0 45 (dk_at dksX8_isSensitive_0 1 rfl rfl)
theorem dX8_isSensitive_4 : decode cX8_isSensitive 4 = .ok (.iload_n 1, 1) := dk_27 (dk_at dksX8_isSensitive_0 4 rfl rfl)
theorem dX8_isSensitive_5 : decode cX8_isSensitive 5 = .ok (.iaload, 1) := dk_46 (dk_at dksX8_isSensitive_0 5 rfl rfl)
theorem dX8_isSensitive_6 : decode cX8_isSensitive 6 = .ok (.bipush 7, 2) := dk_16 7 (dk_at dksX8_isSensitive_0 6 rfl rfl)
theorem dX8_isSensitive_8 : decode cX8_isSensitive 8 = .ok (.iand, 1) := dk_126 (dk_at dksX8_isSensitive_0 8 rfl rfl)
theorem dX8_isSensitive_9 : decode cX8_isSensitive 9 = .ok (.ifCond .eq 7, 3) := dk_153 0 7 (dk_at dksX8_isSensitive_0 9 rfl rfl)
theorem dX8_isSensitive_12 : decode cX8_isSensitive 12 = .ok (.iconst 1, 1) := dk_4 (dk_at dksX8_isSensitive_0 12 rfl rfl)
theorem dX8_isSensitive_13 : decode cX8_isSensitive 13 = .ok (.goto 4, 3) := dk_167 0 4 (dk_at dksX8_isSensitive_0 13 rfl rfl)
theorem dX8_isSensitive_16 : decode cX8_isSensitive 16 = .ok (.iconst 0, 1) := dk_3 (dk_at dksX8_isSensitive_0 16 rfl rfl)
theorem dX8_isSensitive_17 : decode cX8_isSensitive 17 = .ok (.ireturn, 1) := dk_172 (dk_at dksX8_isSensitive_0 17 rfl rfl)
abbrev cX8_emulationOf : ByteArray := prog_19_method_78_code
def yX8_emulationOf : MethodName := ⟨RX8, "emulationOf", "(I)I"⟩
def dkwX8_emulationOf_0 : List UInt8 := [42, 180, 0, 13, 16, 6, 46, 42, 3, 27, 182, 1, 125, 96, 172]
abbrev dktX8_emulationOf_0 : List UInt8 := dkwX8_emulationOf_0 ++ []
theorem dksX8_emulationOf_0 : cX8_emulationOf.data.toList.drop 0 = dktX8_emulationOf_0 := by decide +kernel
theorem dX8_emulationOf_0 : decode cX8_emulationOf 0 = .ok (.aload_n 0, 1) := dk_42 (dk_at dksX8_emulationOf_0 0 rfl rfl)
theorem dX8_emulationOf_1 : decode cX8_emulationOf 1 = .ok (.getfield 13, 3) := dk_180 0 13 (dk_at dksX8_emulationOf_0 1 rfl rfl)
theorem dX8_emulationOf_4 : decode cX8_emulationOf 4 = .ok (.bipush 6, 2) := dk_16 6 (dk_at dksX8_emulationOf_0 4 rfl rfl)
theorem dX8_emulationOf_6 : decode cX8_emulationOf 6 = .ok (.iaload, 1) := dk_46 (dk_at dksX8_emulationOf_0 6 rfl rfl)
theorem dX8_emulationOf_7 : decode cX8_emulationOf 7 = .ok (.aload_n 0, 1) := dk_42 (dk_at dksX8_emulationOf_0 7 rfl rfl)
theorem dX8_emulationOf_8 : decode cX8_emulationOf 8 = .ok (.iconst 0, 1) := dk_3 (dk_at dksX8_emulationOf_0 8 rfl rfl)
theorem dX8_emulationOf_9 : decode cX8_emulationOf 9 = .ok (.iload_n 1, 1) := dk_27 (dk_at dksX8_emulationOf_0 9 rfl rfl)
theorem dX8_emulationOf_10 : decode cX8_emulationOf 10 = .ok (.invokevirtual 381, 3) := dk_182 1 125 (dk_at dksX8_emulationOf_0 10 rfl rfl)
theorem dX8_emulationOf_13 : decode cX8_emulationOf 13 = .ok (.iadd, 1) := dk_96 (dk_at dksX8_emulationOf_0 13 rfl rfl)
theorem dX8_emulationOf_14 : decode cX8_emulationOf 14 = .ok (.ireturn, 1) := dk_172 (dk_at dksX8_emulationOf_0 14 rfl rfl)
abbrev cX8_sumOf : ByteArray := prog_19_method_77_code
def yX8_sumOf : MethodName := ⟨RX8, "sumOf", "(II)I"⟩
def dkwX8_sumOf_3 : List UInt8 := [62, 132, 4, 1, 167, 255, 185, 29, 172]
abbrev dktX8_sumOf_3 : List UInt8 := dkwX8_sumOf_3 ++ []
def dkwX8_sumOf_2 : List UInt8 := [28, 182, 1, 122, 153, 0, 21, 29, 42, 180, 0, 13, 17, 1, 113, 7, 21, 4, 104, 96, 4, 96, 46, 96]
abbrev dktX8_sumOf_2 : List UInt8 := dkwX8_sumOf_2 ++ dktX8_sumOf_3
def dkwX8_sumOf_1 : List UInt8 := [46, 162, 0, 54, 42, 180, 0, 13, 17, 1, 113, 7, 21, 4, 104, 96, 46, 27, 160, 0, 31, 42, 21, 4]
abbrev dktX8_sumOf_1 : List UInt8 := dkwX8_sumOf_1 ++ dktX8_sumOf_2
def dkwX8_sumOf_0 : List UInt8 := [3, 62, 3, 54, 4, 42, 180, 0, 13, 5, 46, 4, 160, 0, 67, 21, 4, 42, 180, 0, 13, 17, 1, 112]
abbrev dktX8_sumOf_0 : List UInt8 := dkwX8_sumOf_0 ++ dktX8_sumOf_1
theorem dksX8_sumOf_0 : cX8_sumOf.data.toList.drop 0 = dktX8_sumOf_0 := by decide +kernel
theorem dksX8_sumOf_1 : cX8_sumOf.data.toList.drop 24 = dktX8_sumOf_1 := dk_seg dksX8_sumOf_0 24 rfl rfl
theorem dksX8_sumOf_2 : cX8_sumOf.data.toList.drop 48 = dktX8_sumOf_2 := dk_seg dksX8_sumOf_1 24 rfl rfl
theorem dksX8_sumOf_3 : cX8_sumOf.data.toList.drop 72 = dktX8_sumOf_3 := dk_seg dksX8_sumOf_2 24 rfl rfl
theorem dX8_sumOf_0 : decode cX8_sumOf 0 = .ok (.iconst 0, 1) := dk_3 (dk_at dksX8_sumOf_0 0 rfl rfl)
theorem dX8_sumOf_1 : decode cX8_sumOf 1 = .ok (.istore_n 3, 1) := dk_62 (dk_at dksX8_sumOf_0 1 rfl rfl)
theorem dX8_sumOf_2 : decode cX8_sumOf 2 = .ok (.iconst 0, 1) := dk_3 (dk_at dksX8_sumOf_0 2 rfl rfl)
theorem dX8_sumOf_3 : decode cX8_sumOf 3 = .ok (.istore 4, 2) := dk_54 4 (dk_at dksX8_sumOf_0 3 rfl rfl)
theorem dX8_sumOf_5 : decode cX8_sumOf 5 = .ok (.aload_n 0, 1) := dk_42 (dk_at dksX8_sumOf_0 5 rfl rfl)
theorem dX8_sumOf_6 : decode cX8_sumOf 6 = .ok (.getfield 13, 3) := dk_180 0 13 (dk_at dksX8_sumOf_0 6 rfl rfl)
theorem dX8_sumOf_9 : decode cX8_sumOf 9 = .ok (.iconst 2, 1) := dk_5 (dk_at dksX8_sumOf_0 9 rfl rfl)
theorem dX8_sumOf_10 : decode cX8_sumOf 10 = .ok (.iaload, 1) := dk_46 (dk_at dksX8_sumOf_0 10 rfl rfl)
theorem dX8_sumOf_11 : decode cX8_sumOf 11 = .ok (.iconst 1, 1) := dk_4 (dk_at dksX8_sumOf_0 11 rfl rfl)
theorem dX8_sumOf_12 : decode cX8_sumOf 12 = .ok (.if_icmp .ne 67, 3) := dk_160 0 67 (dk_at dksX8_sumOf_0 12 rfl rfl)
theorem dX8_sumOf_15 : decode cX8_sumOf 15 = .ok (.iload 4, 2) := dk_21 4 (dk_at dksX8_sumOf_0 15 rfl rfl)
theorem dX8_sumOf_17 : decode cX8_sumOf 17 = .ok (.aload_n 0, 1) := dk_42 (dk_at dksX8_sumOf_0 17 rfl rfl)
theorem dX8_sumOf_18 : decode cX8_sumOf 18 = .ok (.getfield 13, 3) := dk_180 0 13 (dk_at dksX8_sumOf_0 18 rfl rfl)
theorem dX8_sumOf_21 : decode cX8_sumOf 21 = .ok (.sipush 368, 3) := dk_17 1 112 (dk_at dksX8_sumOf_0 21 rfl rfl)
theorem dX8_sumOf_24 : decode cX8_sumOf 24 = .ok (.iaload, 1) := dk_46 (dk_at dksX8_sumOf_1 0 rfl rfl)
theorem dX8_sumOf_25 : decode cX8_sumOf 25 = .ok (.if_icmp .ge 54, 3) := dk_162 0 54 (dk_at dksX8_sumOf_1 1 rfl rfl)
theorem dX8_sumOf_28 : decode cX8_sumOf 28 = .ok (.aload_n 0, 1) := dk_42 (dk_at dksX8_sumOf_1 4 rfl rfl)
theorem dX8_sumOf_29 : decode cX8_sumOf 29 = .ok (.getfield 13, 3) := dk_180 0 13 (dk_at dksX8_sumOf_1 5 rfl rfl)
theorem dX8_sumOf_32 : decode cX8_sumOf 32 = .ok (.sipush 369, 3) := dk_17 1 113 (dk_at dksX8_sumOf_1 8 rfl rfl)
theorem dX8_sumOf_35 : decode cX8_sumOf 35 = .ok (.iconst 4, 1) := dk_7 (dk_at dksX8_sumOf_1 11 rfl rfl)
theorem dX8_sumOf_36 : decode cX8_sumOf 36 = .ok (.iload 4, 2) := dk_21 4 (dk_at dksX8_sumOf_1 12 rfl rfl)
theorem dX8_sumOf_38 : decode cX8_sumOf 38 = .ok (.imul, 1) := dk_104 (dk_at dksX8_sumOf_1 14 rfl rfl)
theorem dX8_sumOf_39 : decode cX8_sumOf 39 = .ok (.iadd, 1) := dk_96 (dk_at dksX8_sumOf_1 15 rfl rfl)
theorem dX8_sumOf_40 : decode cX8_sumOf 40 = .ok (.iaload, 1) := dk_46 (dk_at dksX8_sumOf_1 16 rfl rfl)
theorem dX8_sumOf_41 : decode cX8_sumOf 41 = .ok (.iload_n 1, 1) := dk_27 (dk_at dksX8_sumOf_1 17 rfl rfl)
theorem dX8_sumOf_42 : decode cX8_sumOf 42 = .ok (.if_icmp .ne 31, 3) := dk_160 0 31 (dk_at dksX8_sumOf_1 18 rfl rfl)
theorem dX8_sumOf_45 : decode cX8_sumOf 45 = .ok (.aload_n 0, 1) := dk_42 (dk_at dksX8_sumOf_1 21 rfl rfl)
theorem dX8_sumOf_46 : decode cX8_sumOf 46 = .ok (.iload 4, 2) := dk_21 4 (dk_at dksX8_sumOf_1 22 rfl rfl)
theorem dX8_sumOf_48 : decode cX8_sumOf 48 = .ok (.iload_n 2, 1) := dk_28 (dk_at dksX8_sumOf_2 0 rfl rfl)
theorem dX8_sumOf_49 : decode cX8_sumOf 49 = .ok (.invokevirtual 378, 3) := dk_182 1 122 (dk_at dksX8_sumOf_2 1 rfl rfl)
theorem dX8_sumOf_52 : decode cX8_sumOf 52 = .ok (.ifCond .eq 21, 3) := dk_153 0 21 (dk_at dksX8_sumOf_2 4 rfl rfl)
theorem dX8_sumOf_55 : decode cX8_sumOf 55 = .ok (.iload_n 3, 1) := dk_29 (dk_at dksX8_sumOf_2 7 rfl rfl)
theorem dX8_sumOf_56 : decode cX8_sumOf 56 = .ok (.aload_n 0, 1) := dk_42 (dk_at dksX8_sumOf_2 8 rfl rfl)
theorem dX8_sumOf_57 : decode cX8_sumOf 57 = .ok (.getfield 13, 3) := dk_180 0 13 (dk_at dksX8_sumOf_2 9 rfl rfl)
theorem dX8_sumOf_60 : decode cX8_sumOf 60 = .ok (.sipush 369, 3) := dk_17 1 113 (dk_at dksX8_sumOf_2 12 rfl rfl)
theorem dX8_sumOf_63 : decode cX8_sumOf 63 = .ok (.iconst 4, 1) := dk_7 (dk_at dksX8_sumOf_2 15 rfl rfl)
theorem dX8_sumOf_64 : decode cX8_sumOf 64 = .ok (.iload 4, 2) := dk_21 4 (dk_at dksX8_sumOf_2 16 rfl rfl)
theorem dX8_sumOf_66 : decode cX8_sumOf 66 = .ok (.imul, 1) := dk_104 (dk_at dksX8_sumOf_2 18 rfl rfl)
theorem dX8_sumOf_67 : decode cX8_sumOf 67 = .ok (.iadd, 1) := dk_96 (dk_at dksX8_sumOf_2 19 rfl rfl)
theorem dX8_sumOf_68 : decode cX8_sumOf 68 = .ok (.iconst 1, 1) := dk_4 (dk_at dksX8_sumOf_2 20 rfl rfl)
theorem dX8_sumOf_69 : decode cX8_sumOf 69 = .ok (.iadd, 1) := dk_96 (dk_at dksX8_sumOf_2 21 rfl rfl)
theorem dX8_sumOf_70 : decode cX8_sumOf 70 = .ok (.iaload, 1) := dk_46 (dk_at dksX8_sumOf_2 22 rfl rfl)
theorem dX8_sumOf_71 : decode cX8_sumOf 71 = .ok (.iadd, 1) := dk_96 (dk_at dksX8_sumOf_2 23 rfl rfl)
theorem dX8_sumOf_72 : decode cX8_sumOf 72 = .ok (.istore_n 3, 1) := dk_62 (dk_at dksX8_sumOf_3 0 rfl rfl)
theorem dX8_sumOf_73 : decode cX8_sumOf 73 = .ok (.iinc 4 1, 3) := dk_132 4 1 (dk_at dksX8_sumOf_3 1 rfl rfl)
theorem dX8_sumOf_76 : decode cX8_sumOf 76 = .ok (.goto (-71), 3) := dk_167 255 185 (dk_at dksX8_sumOf_3 4 rfl rfl)
theorem dX8_sumOf_79 : decode cX8_sumOf 79 = .ok (.iload_n 3, 1) := dk_29 (dk_at dksX8_sumOf_3 7 rfl rfl)
theorem dX8_sumOf_80 : decode cX8_sumOf 80 = .ok (.ireturn, 1) := dk_172 (dk_at dksX8_sumOf_3 8 rfl rfl)
abbrev cX8_holdsLine : ByteArray := prog_19_method_76_code
def yX8_holdsLine : MethodName := ⟨RX8, "holdsLine", "(II)Z"⟩
def dkwX8_holdsLine_12 : List UInt8 := [3, 172]
abbrev dktX8_holdsLine_12 : List UInt8 := dkwX8_holdsLine_12 ++ []
def dkwX8_holdsLine_11 : List UInt8 := [132, 5, 1, 167, 255, 18, 29, 153, 0, 13, 42, 180, 0, 52, 3, 46, 4, 160, 0, 7, 4, 167, 0, 4]
abbrev dktX8_holdsLine_11 : List UInt8 := dkwX8_holdsLine_11 ++ dktX8_holdsLine_12
def dkwX8_holdsLine_10 : List UInt8 := [160, 0, 11, 21, 7, 21, 8, 96, 167, 0, 13, 21, 9, 153, 0, 7, 4, 167, 0, 4, 3, 79]
abbrev dktX8_holdsLine_10 : List UInt8 := dkwX8_holdsLine_10 ++ dktX8_holdsLine_11
def dkwX8_holdsLine_9 : List UInt8 := [96, 158, 0, 7, 4, 167, 0, 4, 3, 54, 9, 42, 180, 0, 52, 29, 4, 100, 21, 6, 16, 11]
abbrev dktX8_holdsLine_9 : List UInt8 := dkwX8_holdsLine_9 ++ dktX8_holdsLine_10
def dkwX8_holdsLine_8 : List UInt8 := [160, 0, 20, 21, 7, 21, 8, 96, 5, 160, 0, 7, 4, 167, 0, 20, 3, 167, 0, 16, 21, 7, 21, 8]
abbrev dktX8_holdsLine_8 : List UInt8 := dkwX8_holdsLine_8 ++ dktX8_holdsLine_9
def dkwX8_holdsLine_7 : List UInt8 := [16, 13, 160, 0, 18, 21, 7, 21, 8, 164, 0, 7, 4, 167, 0, 44, 3, 167, 0, 40, 21, 6, 16, 15]
abbrev dktX8_holdsLine_7 : List UInt8 := dkwX8_holdsLine_7 ++ dktX8_holdsLine_8
def dkwX8_holdsLine_6 : List UInt8 := [21, 6, 16, 12, 160, 0, 18, 21, 7, 21, 8, 162, 0, 7, 4, 167, 0, 66, 3, 167, 0, 62, 21, 6]
abbrev dktX8_holdsLine_6 : List UInt8 := dkwX8_holdsLine_6 ++ dktX8_holdsLine_7
def dkwX8_holdsLine_5 : List UInt8 := [167, 0, 140, 132, 3, 255, 42, 180, 0, 52, 29, 4, 100, 46, 54, 7, 42, 180, 0, 52, 29, 46, 54, 8]
abbrev dktX8_holdsLine_5 : List UInt8 := dkwX8_holdsLine_5 ++ dktX8_holdsLine_6
def dkwX8_holdsLine_4 : List UInt8 := [16, 14, 160, 0, 24, 42, 180, 0, 52, 29, 4, 100, 4, 42, 180, 0, 52, 29, 4, 100, 46, 100, 79]
abbrev dktX8_holdsLine_4 : List UInt8 := dkwX8_holdsLine_4 ++ dktX8_holdsLine_5
def dkwX8_holdsLine_3 : List UInt8 := [17, 1, 161, 5, 21, 5, 104, 96, 4, 96, 46, 28, 182, 1, 118, 79, 132, 3, 1, 167, 0, 168, 21, 6]
abbrev dktX8_holdsLine_3 : List UInt8 := dkwX8_holdsLine_3 ++ dktX8_holdsLine_4
def dkwX8_holdsLine_2 : List UInt8 := [46, 54, 6, 21, 6, 16, 10, 163, 0, 37, 42, 180, 0, 52, 29, 42, 21, 6, 42, 180, 0, 13]
abbrev dktX8_holdsLine_2 : List UInt8 := dkwX8_holdsLine_2 ++ dktX8_holdsLine_3
def dkwX8_holdsLine_1 : List UInt8 := [42, 180, 0, 13, 21, 4, 6, 96, 46, 162, 0, 230, 42, 180, 0, 13, 17, 1, 161, 5, 21, 5, 104, 96]
abbrev dktX8_holdsLine_1 : List UInt8 := dkwX8_holdsLine_1 ++ dktX8_holdsLine_2
def dkwX8_holdsLine_0 : List UInt8 := [3, 62, 17, 1, 113, 7, 27, 104, 96, 54, 4, 42, 180, 0, 13, 21, 4, 5, 96, 46, 54, 5, 21, 5]
abbrev dktX8_holdsLine_0 : List UInt8 := dkwX8_holdsLine_0 ++ dktX8_holdsLine_1
theorem dksX8_holdsLine_0 : cX8_holdsLine.data.toList.drop 0 = dktX8_holdsLine_0 := by decide +kernel
theorem dksX8_holdsLine_1 : cX8_holdsLine.data.toList.drop 24 = dktX8_holdsLine_1 := dk_seg dksX8_holdsLine_0 24 rfl rfl
theorem dksX8_holdsLine_2 : cX8_holdsLine.data.toList.drop 48 = dktX8_holdsLine_2 := dk_seg dksX8_holdsLine_1 24 rfl rfl
theorem dksX8_holdsLine_3 : cX8_holdsLine.data.toList.drop 70 = dktX8_holdsLine_3 := dk_seg dksX8_holdsLine_2 22 rfl rfl
theorem dksX8_holdsLine_4 : cX8_holdsLine.data.toList.drop 94 = dktX8_holdsLine_4 := dk_seg dksX8_holdsLine_3 24 rfl rfl
theorem dksX8_holdsLine_5 : cX8_holdsLine.data.toList.drop 117 = dktX8_holdsLine_5 := dk_seg dksX8_holdsLine_4 23 rfl rfl
theorem dksX8_holdsLine_6 : cX8_holdsLine.data.toList.drop 141 = dktX8_holdsLine_6 := dk_seg dksX8_holdsLine_5 24 rfl rfl
theorem dksX8_holdsLine_7 : cX8_holdsLine.data.toList.drop 165 = dktX8_holdsLine_7 := dk_seg dksX8_holdsLine_6 24 rfl rfl
theorem dksX8_holdsLine_8 : cX8_holdsLine.data.toList.drop 189 = dktX8_holdsLine_8 := dk_seg dksX8_holdsLine_7 24 rfl rfl
theorem dksX8_holdsLine_9 : cX8_holdsLine.data.toList.drop 213 = dktX8_holdsLine_9 := dk_seg dksX8_holdsLine_8 24 rfl rfl
theorem dksX8_holdsLine_10 : cX8_holdsLine.data.toList.drop 235 = dktX8_holdsLine_10 := dk_seg dksX8_holdsLine_9 22 rfl rfl
theorem dksX8_holdsLine_11 : cX8_holdsLine.data.toList.drop 257 = dktX8_holdsLine_11 := dk_seg dksX8_holdsLine_10 22 rfl rfl
theorem dksX8_holdsLine_12 : cX8_holdsLine.data.toList.drop 281 = dktX8_holdsLine_12 := dk_seg dksX8_holdsLine_11 24 rfl rfl
theorem dX8_holdsLine_0 : decode cX8_holdsLine 0 = .ok (.iconst 0, 1) := dk_3 (dk_at dksX8_holdsLine_0 0 rfl rfl)
theorem dX8_holdsLine_1 : decode cX8_holdsLine 1 = .ok (.istore_n 3, 1) := dk_62 (dk_at dksX8_holdsLine_0 1 rfl rfl)
theorem dX8_holdsLine_2 : decode cX8_holdsLine 2 = .ok (.sipush 369, 3) := dk_17 1 113 (dk_at dksX8_holdsLine_0 2 rfl rfl)
theorem dX8_holdsLine_5 : decode cX8_holdsLine 5 = .ok (.iconst 4, 1) := dk_7 (dk_at dksX8_holdsLine_0 5 rfl rfl)
theorem dX8_holdsLine_6 : decode cX8_holdsLine 6 = .ok (.iload_n 1, 1) := dk_27 (dk_at dksX8_holdsLine_0 6 rfl rfl)
theorem dX8_holdsLine_7 : decode cX8_holdsLine 7 = .ok (.imul, 1) := dk_104 (dk_at dksX8_holdsLine_0 7 rfl rfl)
theorem dX8_holdsLine_8 : decode cX8_holdsLine 8 = .ok (.iadd, 1) := dk_96 (dk_at dksX8_holdsLine_0 8 rfl rfl)
theorem dX8_holdsLine_9 : decode cX8_holdsLine 9 = .ok (.istore 4, 2) := dk_54 4 (dk_at dksX8_holdsLine_0 9 rfl rfl)
theorem dX8_holdsLine_11 : decode cX8_holdsLine 11 = .ok (.aload_n 0, 1) := dk_42 (dk_at dksX8_holdsLine_0 11 rfl rfl)
theorem dX8_holdsLine_12 : decode cX8_holdsLine 12 = .ok (.getfield 13, 3) := dk_180 0 13 (dk_at dksX8_holdsLine_0 12 rfl rfl)
theorem dX8_holdsLine_15 : decode cX8_holdsLine 15 = .ok (.iload 4, 2) := dk_21 4 (dk_at dksX8_holdsLine_0 15 rfl rfl)
theorem dX8_holdsLine_17 : decode cX8_holdsLine 17 = .ok (.iconst 2, 1) := dk_5 (dk_at dksX8_holdsLine_0 17 rfl rfl)
theorem dX8_holdsLine_18 : decode cX8_holdsLine 18 = .ok (.iadd, 1) := dk_96 (dk_at dksX8_holdsLine_0 18 rfl rfl)
theorem dX8_holdsLine_19 : decode cX8_holdsLine 19 = .ok (.iaload, 1) := dk_46 (dk_at dksX8_holdsLine_0 19 rfl rfl)
theorem dX8_holdsLine_20 : decode cX8_holdsLine 20 = .ok (.istore 5, 2) := dk_54 5 (dk_at dksX8_holdsLine_0 20 rfl rfl)
theorem dX8_holdsLine_22 : decode cX8_holdsLine 22 = .ok (.iload 5, 2) := dk_21 5 (dk_at dksX8_holdsLine_0 22 rfl rfl)
theorem dX8_holdsLine_24 : decode cX8_holdsLine 24 = .ok (.aload_n 0, 1) := dk_42 (dk_at dksX8_holdsLine_1 0 rfl rfl)
theorem dX8_holdsLine_25 : decode cX8_holdsLine 25 = .ok (.getfield 13, 3) := dk_180 0 13 (dk_at dksX8_holdsLine_1 1 rfl rfl)
theorem dX8_holdsLine_28 : decode cX8_holdsLine 28 = .ok (.iload 4, 2) := dk_21 4 (dk_at dksX8_holdsLine_1 4 rfl rfl)
theorem dX8_holdsLine_30 : decode cX8_holdsLine 30 = .ok (.iconst 3, 1) := dk_6 (dk_at dksX8_holdsLine_1 6 rfl rfl)
theorem dX8_holdsLine_31 : decode cX8_holdsLine 31 = .ok (.iadd, 1) := dk_96 (dk_at dksX8_holdsLine_1 7 rfl rfl)
theorem dX8_holdsLine_32 : decode cX8_holdsLine 32 = .ok (.iaload, 1) := dk_46 (dk_at dksX8_holdsLine_1 8 rfl rfl)
theorem dX8_holdsLine_33 : decode cX8_holdsLine 33 = .ok (.if_icmp .ge 230, 3) := dk_162 0 230 (dk_at dksX8_holdsLine_1 9 rfl rfl)
theorem dX8_holdsLine_36 : decode cX8_holdsLine 36 = .ok (.aload_n 0, 1) := dk_42 (dk_at dksX8_holdsLine_1 12 rfl rfl)
theorem dX8_holdsLine_37 : decode cX8_holdsLine 37 = .ok (.getfield 13, 3) := dk_180 0 13 (dk_at dksX8_holdsLine_1 13 rfl rfl)
theorem dX8_holdsLine_40 : decode cX8_holdsLine 40 = .ok (.sipush 417, 3) := dk_17 1 161 (dk_at dksX8_holdsLine_1 16 rfl rfl)
theorem dX8_holdsLine_43 : decode cX8_holdsLine 43 = .ok (.iconst 2, 1) := dk_5 (dk_at dksX8_holdsLine_1 19 rfl rfl)
theorem dX8_holdsLine_44 : decode cX8_holdsLine 44 = .ok (.iload 5, 2) := dk_21 5 (dk_at dksX8_holdsLine_1 20 rfl rfl)
theorem dX8_holdsLine_46 : decode cX8_holdsLine 46 = .ok (.imul, 1) := dk_104 (dk_at dksX8_holdsLine_1 22 rfl rfl)
theorem dX8_holdsLine_47 : decode cX8_holdsLine 47 = .ok (.iadd, 1) := dk_96 (dk_at dksX8_holdsLine_1 23 rfl rfl)
theorem dX8_holdsLine_48 : decode cX8_holdsLine 48 = .ok (.iaload, 1) := dk_46 (dk_at dksX8_holdsLine_2 0 rfl rfl)
theorem dX8_holdsLine_49 : decode cX8_holdsLine 49 = .ok (.istore 6, 2) := dk_54 6 (dk_at dksX8_holdsLine_2 1 rfl rfl)
theorem dX8_holdsLine_51 : decode cX8_holdsLine 51 = .ok (.iload 6, 2) := dk_21 6 (dk_at dksX8_holdsLine_2 3 rfl rfl)
theorem dX8_holdsLine_53 : decode cX8_holdsLine 53 = .ok (.bipush 10, 2) := dk_16 10 (dk_at dksX8_holdsLine_2 5 rfl rfl)
theorem dX8_holdsLine_55 : decode cX8_holdsLine 55 = .ok (.if_icmp .gt 37, 3) := dk_163 0 37 (dk_at dksX8_holdsLine_2 7 rfl rfl)
theorem dX8_holdsLine_58 : decode cX8_holdsLine 58 = .ok (.aload_n 0, 1) := dk_42 (dk_at dksX8_holdsLine_2 10 rfl rfl)
theorem dX8_holdsLine_59 : decode cX8_holdsLine 59 = .ok (.getfield 52, 3) := dk_180 0 52 (dk_at dksX8_holdsLine_2 11 rfl rfl)
theorem dX8_holdsLine_62 : decode cX8_holdsLine 62 = .ok (.iload_n 3, 1) := dk_29 (dk_at dksX8_holdsLine_2 14 rfl rfl)
theorem dX8_holdsLine_63 : decode cX8_holdsLine 63 = .ok (.aload_n 0, 1) := dk_42 (dk_at dksX8_holdsLine_2 15 rfl rfl)
theorem dX8_holdsLine_64 : decode cX8_holdsLine 64 = .ok (.iload 6, 2) := dk_21 6 (dk_at dksX8_holdsLine_2 16 rfl rfl)
theorem dX8_holdsLine_66 : decode cX8_holdsLine 66 = .ok (.aload_n 0, 1) := dk_42 (dk_at dksX8_holdsLine_2 18 rfl rfl)
theorem dX8_holdsLine_67 : decode cX8_holdsLine 67 = .ok (.getfield 13, 3) := dk_180 0 13 (dk_at dksX8_holdsLine_2 19 rfl rfl)
theorem dX8_holdsLine_70 : decode cX8_holdsLine 70 = .ok (.sipush 417, 3) := dk_17 1 161 (dk_at dksX8_holdsLine_3 0 rfl rfl)
theorem dX8_holdsLine_73 : decode cX8_holdsLine 73 = .ok (.iconst 2, 1) := dk_5 (dk_at dksX8_holdsLine_3 3 rfl rfl)
theorem dX8_holdsLine_74 : decode cX8_holdsLine 74 = .ok (.iload 5, 2) := dk_21 5 (dk_at dksX8_holdsLine_3 4 rfl rfl)
theorem dX8_holdsLine_76 : decode cX8_holdsLine 76 = .ok (.imul, 1) := dk_104 (dk_at dksX8_holdsLine_3 6 rfl rfl)
theorem dX8_holdsLine_77 : decode cX8_holdsLine 77 = .ok (.iadd, 1) := dk_96 (dk_at dksX8_holdsLine_3 7 rfl rfl)
theorem dX8_holdsLine_78 : decode cX8_holdsLine 78 = .ok (.iconst 1, 1) := dk_4 (dk_at dksX8_holdsLine_3 8 rfl rfl)
theorem dX8_holdsLine_79 : decode cX8_holdsLine 79 = .ok (.iadd, 1) := dk_96 (dk_at dksX8_holdsLine_3 9 rfl rfl)
theorem dX8_holdsLine_80 : decode cX8_holdsLine 80 = .ok (.iaload, 1) := dk_46 (dk_at dksX8_holdsLine_3 10 rfl rfl)
theorem dX8_holdsLine_81 : decode cX8_holdsLine 81 = .ok (.iload_n 2, 1) := dk_28 (dk_at dksX8_holdsLine_3 11 rfl rfl)
theorem dX8_holdsLine_82 : decode cX8_holdsLine 82 = .ok (.invokevirtual 374, 3) := dk_182 1 118 (dk_at dksX8_holdsLine_3 12 rfl rfl)
theorem dX8_holdsLine_85 : decode cX8_holdsLine 85 = .ok (.iastore, 1) := dk_79 (dk_at dksX8_holdsLine_3 15 rfl rfl)
theorem dX8_holdsLine_86 : decode cX8_holdsLine 86 = .ok (.iinc 3 1, 3) := dk_132 3 1 (dk_at dksX8_holdsLine_3 16 rfl rfl)
theorem dX8_holdsLine_89 : decode cX8_holdsLine 89 = .ok (.goto 168, 3) := dk_167 0 168 (dk_at dksX8_holdsLine_3 19 rfl rfl)
theorem dX8_holdsLine_92 : decode cX8_holdsLine 92 = .ok (.iload 6, 2) := dk_21 6 (dk_at dksX8_holdsLine_3 22 rfl rfl)
theorem dX8_holdsLine_94 : decode cX8_holdsLine 94 = .ok (.bipush 14, 2) := dk_16 14 (dk_at dksX8_holdsLine_4 0 rfl rfl)
theorem dX8_holdsLine_96 : decode cX8_holdsLine 96 = .ok (.if_icmp .ne 24, 3) := dk_160 0 24 (dk_at dksX8_holdsLine_4 2 rfl rfl)
theorem dX8_holdsLine_99 : decode cX8_holdsLine 99 = .ok (.aload_n 0, 1) := dk_42 (dk_at dksX8_holdsLine_4 5 rfl rfl)
theorem dX8_holdsLine_100 : decode cX8_holdsLine 100 = .ok (.getfield 52, 3) := dk_180 0 52 (dk_at dksX8_holdsLine_4 6 rfl rfl)
theorem dX8_holdsLine_103 : decode cX8_holdsLine 103 = .ok (.iload_n 3, 1) := dk_29 (dk_at dksX8_holdsLine_4 9 rfl rfl)
theorem dX8_holdsLine_104 : decode cX8_holdsLine 104 = .ok (.iconst 1, 1) := dk_4 (dk_at dksX8_holdsLine_4 10 rfl rfl)
theorem dX8_holdsLine_105 : decode cX8_holdsLine 105 = .ok (.isub, 1) := dk_100 (dk_at dksX8_holdsLine_4 11 rfl rfl)
theorem dX8_holdsLine_106 : decode cX8_holdsLine 106 = .ok (.iconst 1, 1) := dk_4 (dk_at dksX8_holdsLine_4 12 rfl rfl)
theorem dX8_holdsLine_107 : decode cX8_holdsLine 107 = .ok (.aload_n 0, 1) := dk_42 (dk_at dksX8_holdsLine_4 13 rfl rfl)
theorem dX8_holdsLine_108 : decode cX8_holdsLine 108 = .ok (.getfield 52, 3) := dk_180 0 52 (dk_at dksX8_holdsLine_4 14 rfl rfl)
theorem dX8_holdsLine_111 : decode cX8_holdsLine 111 = .ok (.iload_n 3, 1) := dk_29 (dk_at dksX8_holdsLine_4 17 rfl rfl)
theorem dX8_holdsLine_112 : decode cX8_holdsLine 112 = .ok (.iconst 1, 1) := dk_4 (dk_at dksX8_holdsLine_4 18 rfl rfl)
theorem dX8_holdsLine_113 : decode cX8_holdsLine 113 = .ok (.isub, 1) := dk_100 (dk_at dksX8_holdsLine_4 19 rfl rfl)
theorem dX8_holdsLine_114 : decode cX8_holdsLine 114 = .ok (.iaload, 1) := dk_46 (dk_at dksX8_holdsLine_4 20 rfl rfl)
theorem dX8_holdsLine_115 : decode cX8_holdsLine 115 = .ok (.isub, 1) := dk_100 (dk_at dksX8_holdsLine_4 21 rfl rfl)
theorem dX8_holdsLine_116 : decode cX8_holdsLine 116 = .ok (.iastore, 1) := dk_79 (dk_at dksX8_holdsLine_4 22 rfl rfl)
theorem dX8_holdsLine_117 : decode cX8_holdsLine 117 = .ok (.goto 140, 3) := dk_167 0 140 (dk_at dksX8_holdsLine_5 0 rfl rfl)
theorem dX8_holdsLine_120 : decode cX8_holdsLine 120 = .ok (.iinc 3 (-1), 3) := dk_132 3 255 (dk_at dksX8_holdsLine_5 3 rfl rfl)
theorem dX8_holdsLine_123 : decode cX8_holdsLine 123 = .ok (.aload_n 0, 1) := dk_42 (dk_at dksX8_holdsLine_5 6 rfl rfl)
theorem dX8_holdsLine_124 : decode cX8_holdsLine 124 = .ok (.getfield 52, 3) := dk_180 0 52 (dk_at dksX8_holdsLine_5 7 rfl rfl)
theorem dX8_holdsLine_127 : decode cX8_holdsLine 127 = .ok (.iload_n 3, 1) := dk_29 (dk_at dksX8_holdsLine_5 10 rfl rfl)
theorem dX8_holdsLine_128 : decode cX8_holdsLine 128 = .ok (.iconst 1, 1) := dk_4 (dk_at dksX8_holdsLine_5 11 rfl rfl)
theorem dX8_holdsLine_129 : decode cX8_holdsLine 129 = .ok (.isub, 1) := dk_100 (dk_at dksX8_holdsLine_5 12 rfl rfl)
theorem dX8_holdsLine_130 : decode cX8_holdsLine 130 = .ok (.iaload, 1) := dk_46 (dk_at dksX8_holdsLine_5 13 rfl rfl)
theorem dX8_holdsLine_131 : decode cX8_holdsLine 131 = .ok (.istore 7, 2) := dk_54 7 (dk_at dksX8_holdsLine_5 14 rfl rfl)
theorem dX8_holdsLine_133 : decode cX8_holdsLine 133 = .ok (.aload_n 0, 1) := dk_42 (dk_at dksX8_holdsLine_5 16 rfl rfl)
theorem dX8_holdsLine_134 : decode cX8_holdsLine 134 = .ok (.getfield 52, 3) := dk_180 0 52 (dk_at dksX8_holdsLine_5 17 rfl rfl)
theorem dX8_holdsLine_137 : decode cX8_holdsLine 137 = .ok (.iload_n 3, 1) := dk_29 (dk_at dksX8_holdsLine_5 20 rfl rfl)
theorem dX8_holdsLine_138 : decode cX8_holdsLine 138 = .ok (.iaload, 1) := dk_46 (dk_at dksX8_holdsLine_5 21 rfl rfl)
theorem dX8_holdsLine_139 : decode cX8_holdsLine 139 = .ok (.istore 8, 2) := dk_54 8 (dk_at dksX8_holdsLine_5 22 rfl rfl)
theorem dX8_holdsLine_141 : decode cX8_holdsLine 141 = .ok (.iload 6, 2) := dk_21 6 (dk_at dksX8_holdsLine_6 0 rfl rfl)
theorem dX8_holdsLine_143 : decode cX8_holdsLine 143 = .ok (.bipush 12, 2) := dk_16 12 (dk_at dksX8_holdsLine_6 2 rfl rfl)
theorem dX8_holdsLine_145 : decode cX8_holdsLine 145 = .ok (.if_icmp .ne 18, 3) := dk_160 0 18 (dk_at dksX8_holdsLine_6 4 rfl rfl)
theorem dX8_holdsLine_148 : decode cX8_holdsLine 148 = .ok (.iload 7, 2) := dk_21 7 (dk_at dksX8_holdsLine_6 7 rfl rfl)
theorem dX8_holdsLine_150 : decode cX8_holdsLine 150 = .ok (.iload 8, 2) := dk_21 8 (dk_at dksX8_holdsLine_6 9 rfl rfl)
theorem dX8_holdsLine_152 : decode cX8_holdsLine 152 = .ok (.if_icmp .ge 7, 3) := dk_162 0 7 (dk_at dksX8_holdsLine_6 11 rfl rfl)
theorem dX8_holdsLine_155 : decode cX8_holdsLine 155 = .ok (.iconst 1, 1) := dk_4 (dk_at dksX8_holdsLine_6 14 rfl rfl)
theorem dX8_holdsLine_156 : decode cX8_holdsLine 156 = .ok (.goto 66, 3) := dk_167 0 66 (dk_at dksX8_holdsLine_6 15 rfl rfl)
theorem dX8_holdsLine_159 : decode cX8_holdsLine 159 = .ok (.iconst 0, 1) := dk_3 (dk_at dksX8_holdsLine_6 18 rfl rfl)
theorem dX8_holdsLine_160 : decode cX8_holdsLine 160 = .ok (.goto 62, 3) := dk_167 0 62 (dk_at dksX8_holdsLine_6 19 rfl rfl)
theorem dX8_holdsLine_163 : decode cX8_holdsLine 163 = .ok (.iload 6, 2) := dk_21 6 (dk_at dksX8_holdsLine_6 22 rfl rfl)
theorem dX8_holdsLine_165 : decode cX8_holdsLine 165 = .ok (.bipush 13, 2) := dk_16 13 (dk_at dksX8_holdsLine_7 0 rfl rfl)
theorem dX8_holdsLine_167 : decode cX8_holdsLine 167 = .ok (.if_icmp .ne 18, 3) := dk_160 0 18 (dk_at dksX8_holdsLine_7 2 rfl rfl)
theorem dX8_holdsLine_170 : decode cX8_holdsLine 170 = .ok (.iload 7, 2) := dk_21 7 (dk_at dksX8_holdsLine_7 5 rfl rfl)
theorem dX8_holdsLine_172 : decode cX8_holdsLine 172 = .ok (.iload 8, 2) := dk_21 8 (dk_at dksX8_holdsLine_7 7 rfl rfl)
theorem dX8_holdsLine_174 : decode cX8_holdsLine 174 = .ok (.if_icmp .le 7, 3) := dk_164 0 7 (dk_at dksX8_holdsLine_7 9 rfl rfl)
theorem dX8_holdsLine_177 : decode cX8_holdsLine 177 = .ok (.iconst 1, 1) := dk_4 (dk_at dksX8_holdsLine_7 12 rfl rfl)
theorem dX8_holdsLine_178 : decode cX8_holdsLine 178 = .ok (.goto 44, 3) := dk_167 0 44 (dk_at dksX8_holdsLine_7 13 rfl rfl)
theorem dX8_holdsLine_181 : decode cX8_holdsLine 181 = .ok (.iconst 0, 1) := dk_3 (dk_at dksX8_holdsLine_7 16 rfl rfl)
theorem dX8_holdsLine_182 : decode cX8_holdsLine 182 = .ok (.goto 40, 3) := dk_167 0 40 (dk_at dksX8_holdsLine_7 17 rfl rfl)
theorem dX8_holdsLine_185 : decode cX8_holdsLine 185 = .ok (.iload 6, 2) := dk_21 6 (dk_at dksX8_holdsLine_7 20 rfl rfl)
theorem dX8_holdsLine_187 : decode cX8_holdsLine 187 = .ok (.bipush 15, 2) := dk_16 15 (dk_at dksX8_holdsLine_7 22 rfl rfl)
theorem dX8_holdsLine_189 : decode cX8_holdsLine 189 = .ok (.if_icmp .ne 20, 3) := dk_160 0 20 (dk_at dksX8_holdsLine_8 0 rfl rfl)
theorem dX8_holdsLine_192 : decode cX8_holdsLine 192 = .ok (.iload 7, 2) := dk_21 7 (dk_at dksX8_holdsLine_8 3 rfl rfl)
theorem dX8_holdsLine_194 : decode cX8_holdsLine 194 = .ok (.iload 8, 2) := dk_21 8 (dk_at dksX8_holdsLine_8 5 rfl rfl)
theorem dX8_holdsLine_196 : decode cX8_holdsLine 196 = .ok (.iadd, 1) := dk_96 (dk_at dksX8_holdsLine_8 7 rfl rfl)
theorem dX8_holdsLine_197 : decode cX8_holdsLine 197 = .ok (.iconst 2, 1) := dk_5 (dk_at dksX8_holdsLine_8 8 rfl rfl)
theorem dX8_holdsLine_198 : decode cX8_holdsLine 198 = .ok (.if_icmp .ne 7, 3) := dk_160 0 7 (dk_at dksX8_holdsLine_8 9 rfl rfl)
theorem dX8_holdsLine_201 : decode cX8_holdsLine 201 = .ok (.iconst 1, 1) := dk_4 (dk_at dksX8_holdsLine_8 12 rfl rfl)
theorem dX8_holdsLine_202 : decode cX8_holdsLine 202 = .ok (.goto 20, 3) := dk_167 0 20 (dk_at dksX8_holdsLine_8 13 rfl rfl)
theorem dX8_holdsLine_205 : decode cX8_holdsLine 205 = .ok (.iconst 0, 1) := dk_3 (dk_at dksX8_holdsLine_8 16 rfl rfl)
theorem dX8_holdsLine_206 : decode cX8_holdsLine 206 = .ok (.goto 16, 3) := dk_167 0 16 (dk_at dksX8_holdsLine_8 17 rfl rfl)
theorem dX8_holdsLine_209 : decode cX8_holdsLine 209 = .ok (.iload 7, 2) := dk_21 7 (dk_at dksX8_holdsLine_8 20 rfl rfl)
theorem dX8_holdsLine_211 : decode cX8_holdsLine 211 = .ok (.iload 8, 2) := dk_21 8 (dk_at dksX8_holdsLine_8 22 rfl rfl)
theorem dX8_holdsLine_213 : decode cX8_holdsLine 213 = .ok (.iadd, 1) := dk_96 (dk_at dksX8_holdsLine_9 0 rfl rfl)
theorem dX8_holdsLine_214 : decode cX8_holdsLine 214 = .ok (.ifCond .le 7, 3) := dk_158 0 7 (dk_at dksX8_holdsLine_9 1 rfl rfl)
theorem dX8_holdsLine_217 : decode cX8_holdsLine 217 = .ok (.iconst 1, 1) := dk_4 (dk_at dksX8_holdsLine_9 4 rfl rfl)
theorem dX8_holdsLine_218 : decode cX8_holdsLine 218 = .ok (.goto 4, 3) := dk_167 0 4 (dk_at dksX8_holdsLine_9 5 rfl rfl)
theorem dX8_holdsLine_221 : decode cX8_holdsLine 221 = .ok (.iconst 0, 1) := dk_3 (dk_at dksX8_holdsLine_9 8 rfl rfl)
theorem dX8_holdsLine_222 : decode cX8_holdsLine 222 = .ok (.istore 9, 2) := dk_54 9 (dk_at dksX8_holdsLine_9 9 rfl rfl)
theorem dX8_holdsLine_224 : decode cX8_holdsLine 224 = .ok (.aload_n 0, 1) := dk_42 (dk_at dksX8_holdsLine_9 11 rfl rfl)
theorem dX8_holdsLine_225 : decode cX8_holdsLine 225 = .ok (.getfield 52, 3) := dk_180 0 52 (dk_at dksX8_holdsLine_9 12 rfl rfl)
theorem dX8_holdsLine_228 : decode cX8_holdsLine 228 = .ok (.iload_n 3, 1) := dk_29 (dk_at dksX8_holdsLine_9 15 rfl rfl)
theorem dX8_holdsLine_229 : decode cX8_holdsLine 229 = .ok (.iconst 1, 1) := dk_4 (dk_at dksX8_holdsLine_9 16 rfl rfl)
theorem dX8_holdsLine_230 : decode cX8_holdsLine 230 = .ok (.isub, 1) := dk_100 (dk_at dksX8_holdsLine_9 17 rfl rfl)
theorem dX8_holdsLine_231 : decode cX8_holdsLine 231 = .ok (.iload 6, 2) := dk_21 6 (dk_at dksX8_holdsLine_9 18 rfl rfl)
theorem dX8_holdsLine_233 : decode cX8_holdsLine 233 = .ok (.bipush 11, 2) := dk_16 11 (dk_at dksX8_holdsLine_9 20 rfl rfl)
theorem dX8_holdsLine_235 : decode cX8_holdsLine 235 = .ok (.if_icmp .ne 11, 3) := dk_160 0 11 (dk_at dksX8_holdsLine_10 0 rfl rfl)
theorem dX8_holdsLine_238 : decode cX8_holdsLine 238 = .ok (.iload 7, 2) := dk_21 7 (dk_at dksX8_holdsLine_10 3 rfl rfl)
theorem dX8_holdsLine_240 : decode cX8_holdsLine 240 = .ok (.iload 8, 2) := dk_21 8 (dk_at dksX8_holdsLine_10 5 rfl rfl)
theorem dX8_holdsLine_242 : decode cX8_holdsLine 242 = .ok (.iadd, 1) := dk_96 (dk_at dksX8_holdsLine_10 7 rfl rfl)
theorem dX8_holdsLine_243 : decode cX8_holdsLine 243 = .ok (.goto 13, 3) := dk_167 0 13 (dk_at dksX8_holdsLine_10 8 rfl rfl)
theorem dX8_holdsLine_246 : decode cX8_holdsLine 246 = .ok (.iload 9, 2) := dk_21 9 (dk_at dksX8_holdsLine_10 11 rfl rfl)
theorem dX8_holdsLine_248 : decode cX8_holdsLine 248 = .ok (.ifCond .eq 7, 3) := dk_153 0 7 (dk_at dksX8_holdsLine_10 13 rfl rfl)
theorem dX8_holdsLine_251 : decode cX8_holdsLine 251 = .ok (.iconst 1, 1) := dk_4 (dk_at dksX8_holdsLine_10 16 rfl rfl)
theorem dX8_holdsLine_252 : decode cX8_holdsLine 252 = .ok (.goto 4, 3) := dk_167 0 4 (dk_at dksX8_holdsLine_10 17 rfl rfl)
theorem dX8_holdsLine_255 : decode cX8_holdsLine 255 = .ok (.iconst 0, 1) := dk_3 (dk_at dksX8_holdsLine_10 20 rfl rfl)
theorem dX8_holdsLine_256 : decode cX8_holdsLine 256 = .ok (.iastore, 1) := dk_79 (dk_at dksX8_holdsLine_10 21 rfl rfl)
theorem dX8_holdsLine_257 : decode cX8_holdsLine 257 = .ok (.iinc 5 1, 3) := dk_132 5 1 (dk_at dksX8_holdsLine_11 0 rfl rfl)
theorem dX8_holdsLine_260 : decode cX8_holdsLine 260 = .ok (.goto (-238), 3) := dk_167 255 18 (dk_at dksX8_holdsLine_11 3 rfl rfl)
theorem dX8_holdsLine_263 : decode cX8_holdsLine 263 = .ok (.iload_n 3, 1) := dk_29 (dk_at dksX8_holdsLine_11 6 rfl rfl)
theorem dX8_holdsLine_264 : decode cX8_holdsLine 264 = .ok (.ifCond .eq 13, 3) := dk_153 0 13 (dk_at dksX8_holdsLine_11 7 rfl rfl)
theorem dX8_holdsLine_267 : decode cX8_holdsLine 267 = .ok (.aload_n 0, 1) := dk_42 (dk_at dksX8_holdsLine_11 10 rfl rfl)
theorem dX8_holdsLine_268 : decode cX8_holdsLine 268 = .ok (.getfield 52, 3) := dk_180 0 52 (dk_at dksX8_holdsLine_11 11 rfl rfl)
theorem dX8_holdsLine_271 : decode cX8_holdsLine 271 = .ok (.iconst 0, 1) := dk_3 (dk_at dksX8_holdsLine_11 14 rfl rfl)
theorem dX8_holdsLine_272 : decode cX8_holdsLine 272 = .ok (.iaload, 1) := dk_46 (dk_at dksX8_holdsLine_11 15 rfl rfl)
theorem dX8_holdsLine_273 : decode cX8_holdsLine 273 = .ok (.iconst 1, 1) := dk_4 (dk_at dksX8_holdsLine_11 16 rfl rfl)
theorem dX8_holdsLine_274 : decode cX8_holdsLine 274 = .ok (.if_icmp .ne 7, 3) := dk_160 0 7 (dk_at dksX8_holdsLine_11 17 rfl rfl)
theorem dX8_holdsLine_277 : decode cX8_holdsLine 277 = .ok (.iconst 1, 1) := dk_4 (dk_at dksX8_holdsLine_11 20 rfl rfl)
theorem dX8_holdsLine_278 : decode cX8_holdsLine 278 = .ok (.goto 4, 3) := dk_167 0 4 (dk_at dksX8_holdsLine_11 21 rfl rfl)
theorem dX8_holdsLine_281 : decode cX8_holdsLine 281 = .ok (.iconst 0, 1) := dk_3 (dk_at dksX8_holdsLine_12 0 rfl rfl)
theorem dX8_holdsLine_282 : decode cX8_holdsLine 282 = .ok (.ireturn, 1) := dk_172 (dk_at dksX8_holdsLine_12 1 rfl rfl)
abbrev cX8_factOf : ByteArray := prog_19_method_75_code
def yX8_factOf : MethodName := ⟨RX8, "factOf", "(III)I"⟩
def dkwX8_factOf_5 : List UInt8 := [29, 182, 1, 115, 153, 0, 7, 4, 167, 0, 4, 3, 172, 28, 172]
abbrev dktX8_factOf_5 : List UInt8 := dkwX8_factOf_5 ++ []
def dkwX8_factOf_4 : List UInt8 := [4, 126, 172, 42, 29, 182, 1, 112, 172, 42, 29, 4, 182, 0, 78, 172, 42, 29, 5, 182, 0, 78, 172, 42]
abbrev dktX8_factOf_4 : List UInt8 := dkwX8_factOf_4 ++ dktX8_factOf_5
def dkwX8_factOf_3 : List UInt8 := [4, 122, 4, 126, 172, 42, 180, 0, 45, 29, 46, 5, 122, 4, 126, 172, 42, 180, 0, 45, 29, 46, 6, 122]
abbrev dktX8_factOf_3 : List UInt8 := dkwX8_factOf_3 ++ dktX8_factOf_4
def dkwX8_factOf_2 : List UInt8 := [29, 172, 42, 29, 3, 182, 0, 78, 172, 42, 180, 0, 45, 29, 46, 4, 126, 172, 42, 180, 0, 45, 29, 46]
abbrev dktX8_factOf_2 : List UInt8 := dkwX8_factOf_2 ++ dktX8_factOf_3
def dkwX8_factOf_1 : List UInt8 := [170, 0, 0, 0, 0, 0, 140, 0, 0, 0, 0, 0, 0, 0, 9, 0, 0, 0, 55, 0, 0, 0, 57, 0, 0, 0, 64, 0, 0, 0, 73, 0, 0, 0, 84, 0, 0, 0, 95, 0, 0, 0, 106, 0, 0, 0, 112, 0, 0, 0, 119, 0, 0, 0, 126]
abbrev dktX8_factOf_1 : List UInt8 := dkwX8_factOf_1 ++ dktX8_factOf_2
def dkwX8_factOf_0 : List UInt8 := [27]
abbrev dktX8_factOf_0 : List UInt8 := dkwX8_factOf_0 ++ dktX8_factOf_1
theorem dksX8_factOf_0 : cX8_factOf.data.toList.drop 0 = dktX8_factOf_0 := by decide +kernel
theorem dksX8_factOf_1 : cX8_factOf.data.toList.drop 1 = dktX8_factOf_1 := dk_seg dksX8_factOf_0 1 rfl rfl
theorem dksX8_factOf_2 : cX8_factOf.data.toList.drop 56 = dktX8_factOf_2 := dk_seg dksX8_factOf_1 55 rfl rfl
theorem dksX8_factOf_3 : cX8_factOf.data.toList.drop 80 = dktX8_factOf_3 := dk_seg dksX8_factOf_2 24 rfl rfl
theorem dksX8_factOf_4 : cX8_factOf.data.toList.drop 104 = dktX8_factOf_4 := dk_seg dksX8_factOf_3 24 rfl rfl
theorem dksX8_factOf_5 : cX8_factOf.data.toList.drop 128 = dktX8_factOf_5 := dk_seg dksX8_factOf_4 24 rfl rfl
theorem dX8_factOf_0 : decode cX8_factOf 0 = .ok (.iload_n 1, 1) := dk_27 (dk_at dksX8_factOf_0 0 rfl rfl)
theorem dX8_factOf_1 : decode cX8_factOf 1 = .ok (.tableswitch 140 0 9 #[55, 57, 64, 73, 84, 95, 106, 112, 119, 126], 55) := by decide +kernel
theorem dX8_factOf_56 : decode cX8_factOf 56 = .ok (.iload_n 3, 1) := dk_29 (dk_at dksX8_factOf_2 0 rfl rfl)
theorem dX8_factOf_57 : decode cX8_factOf 57 = .ok (.ireturn, 1) := dk_172 (dk_at dksX8_factOf_2 1 rfl rfl)
theorem dX8_factOf_58 : decode cX8_factOf 58 = .ok (.aload_n 0, 1) := dk_42 (dk_at dksX8_factOf_2 2 rfl rfl)
theorem dX8_factOf_59 : decode cX8_factOf 59 = .ok (.iload_n 3, 1) := dk_29 (dk_at dksX8_factOf_2 3 rfl rfl)
theorem dX8_factOf_60 : decode cX8_factOf 60 = .ok (.iconst 0, 1) := dk_3 (dk_at dksX8_factOf_2 4 rfl rfl)
theorem dX8_factOf_61 : decode cX8_factOf 61 = .ok (.invokevirtual 78, 3) := dk_182 0 78 (dk_at dksX8_factOf_2 5 rfl rfl)
theorem dX8_factOf_64 : decode cX8_factOf 64 = .ok (.ireturn, 1) := dk_172 (dk_at dksX8_factOf_2 8 rfl rfl)
theorem dX8_factOf_65 : decode cX8_factOf 65 = .ok (.aload_n 0, 1) := dk_42 (dk_at dksX8_factOf_2 9 rfl rfl)
theorem dX8_factOf_66 : decode cX8_factOf 66 = .ok (.getfield 45, 3) := dk_180 0 45 (dk_at dksX8_factOf_2 10 rfl rfl)
theorem dX8_factOf_69 : decode cX8_factOf 69 = .ok (.iload_n 3, 1) := dk_29 (dk_at dksX8_factOf_2 13 rfl rfl)
theorem dX8_factOf_70 : decode cX8_factOf 70 = .ok (.iaload, 1) := dk_46 (dk_at dksX8_factOf_2 14 rfl rfl)
theorem dX8_factOf_71 : decode cX8_factOf 71 = .ok (.iconst 1, 1) := dk_4 (dk_at dksX8_factOf_2 15 rfl rfl)
theorem dX8_factOf_72 : decode cX8_factOf 72 = .ok (.iand, 1) := dk_126 (dk_at dksX8_factOf_2 16 rfl rfl)
theorem dX8_factOf_73 : decode cX8_factOf 73 = .ok (.ireturn, 1) := dk_172 (dk_at dksX8_factOf_2 17 rfl rfl)
theorem dX8_factOf_74 : decode cX8_factOf 74 = .ok (.aload_n 0, 1) := dk_42 (dk_at dksX8_factOf_2 18 rfl rfl)
theorem dX8_factOf_75 : decode cX8_factOf 75 = .ok (.getfield 45, 3) := dk_180 0 45 (dk_at dksX8_factOf_2 19 rfl rfl)
theorem dX8_factOf_78 : decode cX8_factOf 78 = .ok (.iload_n 3, 1) := dk_29 (dk_at dksX8_factOf_2 22 rfl rfl)
theorem dX8_factOf_79 : decode cX8_factOf 79 = .ok (.iaload, 1) := dk_46 (dk_at dksX8_factOf_2 23 rfl rfl)
theorem dX8_factOf_80 : decode cX8_factOf 80 = .ok (.iconst 1, 1) := dk_4 (dk_at dksX8_factOf_3 0 rfl rfl)
theorem dX8_factOf_81 : decode cX8_factOf 81 = .ok (.ishr, 1) := dk_122 (dk_at dksX8_factOf_3 1 rfl rfl)
theorem dX8_factOf_82 : decode cX8_factOf 82 = .ok (.iconst 1, 1) := dk_4 (dk_at dksX8_factOf_3 2 rfl rfl)
theorem dX8_factOf_83 : decode cX8_factOf 83 = .ok (.iand, 1) := dk_126 (dk_at dksX8_factOf_3 3 rfl rfl)
theorem dX8_factOf_84 : decode cX8_factOf 84 = .ok (.ireturn, 1) := dk_172 (dk_at dksX8_factOf_3 4 rfl rfl)
theorem dX8_factOf_85 : decode cX8_factOf 85 = .ok (.aload_n 0, 1) := dk_42 (dk_at dksX8_factOf_3 5 rfl rfl)
theorem dX8_factOf_86 : decode cX8_factOf 86 = .ok (.getfield 45, 3) := dk_180 0 45 (dk_at dksX8_factOf_3 6 rfl rfl)
theorem dX8_factOf_89 : decode cX8_factOf 89 = .ok (.iload_n 3, 1) := dk_29 (dk_at dksX8_factOf_3 9 rfl rfl)
theorem dX8_factOf_90 : decode cX8_factOf 90 = .ok (.iaload, 1) := dk_46 (dk_at dksX8_factOf_3 10 rfl rfl)
theorem dX8_factOf_91 : decode cX8_factOf 91 = .ok (.iconst 2, 1) := dk_5 (dk_at dksX8_factOf_3 11 rfl rfl)
theorem dX8_factOf_92 : decode cX8_factOf 92 = .ok (.ishr, 1) := dk_122 (dk_at dksX8_factOf_3 12 rfl rfl)
theorem dX8_factOf_93 : decode cX8_factOf 93 = .ok (.iconst 1, 1) := dk_4 (dk_at dksX8_factOf_3 13 rfl rfl)
theorem dX8_factOf_94 : decode cX8_factOf 94 = .ok (.iand, 1) := dk_126 (dk_at dksX8_factOf_3 14 rfl rfl)
theorem dX8_factOf_95 : decode cX8_factOf 95 = .ok (.ireturn, 1) := dk_172 (dk_at dksX8_factOf_3 15 rfl rfl)
theorem dX8_factOf_96 : decode cX8_factOf 96 = .ok (.aload_n 0, 1) := dk_42 (dk_at dksX8_factOf_3 16 rfl rfl)
theorem dX8_factOf_97 : decode cX8_factOf 97 = .ok (.getfield 45, 3) := dk_180 0 45 (dk_at dksX8_factOf_3 17 rfl rfl)
theorem dX8_factOf_100 : decode cX8_factOf 100 = .ok (.iload_n 3, 1) := dk_29 (dk_at dksX8_factOf_3 20 rfl rfl)
theorem dX8_factOf_101 : decode cX8_factOf 101 = .ok (.iaload, 1) := dk_46 (dk_at dksX8_factOf_3 21 rfl rfl)
theorem dX8_factOf_102 : decode cX8_factOf 102 = .ok (.iconst 3, 1) := dk_6 (dk_at dksX8_factOf_3 22 rfl rfl)
theorem dX8_factOf_103 : decode cX8_factOf 103 = .ok (.ishr, 1) := dk_122 (dk_at dksX8_factOf_3 23 rfl rfl)
theorem dX8_factOf_104 : decode cX8_factOf 104 = .ok (.iconst 1, 1) := dk_4 (dk_at dksX8_factOf_4 0 rfl rfl)
theorem dX8_factOf_105 : decode cX8_factOf 105 = .ok (.iand, 1) := dk_126 (dk_at dksX8_factOf_4 1 rfl rfl)
theorem dX8_factOf_106 : decode cX8_factOf 106 = .ok (.ireturn, 1) := dk_172 (dk_at dksX8_factOf_4 2 rfl rfl)
theorem dX8_factOf_107 : decode cX8_factOf 107 = .ok (.aload_n 0, 1) := dk_42 (dk_at dksX8_factOf_4 3 rfl rfl)
theorem dX8_factOf_108 : decode cX8_factOf 108 = .ok (.iload_n 3, 1) := dk_29 (dk_at dksX8_factOf_4 4 rfl rfl)
theorem dX8_factOf_109 : decode cX8_factOf 109 = .ok (.invokevirtual 368, 3) := dk_182 1 112 (dk_at dksX8_factOf_4 5 rfl rfl)
theorem dX8_factOf_112 : decode cX8_factOf 112 = .ok (.ireturn, 1) := dk_172 (dk_at dksX8_factOf_4 8 rfl rfl)
theorem dX8_factOf_113 : decode cX8_factOf 113 = .ok (.aload_n 0, 1) := dk_42 (dk_at dksX8_factOf_4 9 rfl rfl)
theorem dX8_factOf_114 : decode cX8_factOf 114 = .ok (.iload_n 3, 1) := dk_29 (dk_at dksX8_factOf_4 10 rfl rfl)
theorem dX8_factOf_115 : decode cX8_factOf 115 = .ok (.iconst 1, 1) := dk_4 (dk_at dksX8_factOf_4 11 rfl rfl)
theorem dX8_factOf_116 : decode cX8_factOf 116 = .ok (.invokevirtual 78, 3) := dk_182 0 78 (dk_at dksX8_factOf_4 12 rfl rfl)
theorem dX8_factOf_119 : decode cX8_factOf 119 = .ok (.ireturn, 1) := dk_172 (dk_at dksX8_factOf_4 15 rfl rfl)
theorem dX8_factOf_120 : decode cX8_factOf 120 = .ok (.aload_n 0, 1) := dk_42 (dk_at dksX8_factOf_4 16 rfl rfl)
theorem dX8_factOf_121 : decode cX8_factOf 121 = .ok (.iload_n 3, 1) := dk_29 (dk_at dksX8_factOf_4 17 rfl rfl)
theorem dX8_factOf_122 : decode cX8_factOf 122 = .ok (.iconst 2, 1) := dk_5 (dk_at dksX8_factOf_4 18 rfl rfl)
theorem dX8_factOf_123 : decode cX8_factOf 123 = .ok (.invokevirtual 78, 3) := dk_182 0 78 (dk_at dksX8_factOf_4 19 rfl rfl)
theorem dX8_factOf_126 : decode cX8_factOf 126 = .ok (.ireturn, 1) := dk_172 (dk_at dksX8_factOf_4 22 rfl rfl)
theorem dX8_factOf_127 : decode cX8_factOf 127 = .ok (.aload_n 0, 1) := dk_42 (dk_at dksX8_factOf_4 23 rfl rfl)
theorem dX8_factOf_128 : decode cX8_factOf 128 = .ok (.iload_n 3, 1) := dk_29 (dk_at dksX8_factOf_5 0 rfl rfl)
theorem dX8_factOf_129 : decode cX8_factOf 129 = .ok (.invokevirtual 371, 3) := dk_182 1 115 (dk_at dksX8_factOf_5 1 rfl rfl)
theorem dX8_factOf_132 : decode cX8_factOf 132 = .ok (.ifCond .eq 7, 3) := dk_153 0 7 (dk_at dksX8_factOf_5 4 rfl rfl)
theorem dX8_factOf_135 : decode cX8_factOf 135 = .ok (.iconst 1, 1) := dk_4 (dk_at dksX8_factOf_5 7 rfl rfl)
theorem dX8_factOf_136 : decode cX8_factOf 136 = .ok (.goto 4, 3) := dk_167 0 4 (dk_at dksX8_factOf_5 8 rfl rfl)
theorem dX8_factOf_139 : decode cX8_factOf 139 = .ok (.iconst 0, 1) := dk_3 (dk_at dksX8_factOf_5 11 rfl rfl)
theorem dX8_factOf_140 : decode cX8_factOf 140 = .ok (.ireturn, 1) := dk_172 (dk_at dksX8_factOf_5 12 rfl rfl)
theorem dX8_factOf_141 : decode cX8_factOf 141 = .ok (.iload_n 2, 1) := dk_28 (dk_at dksX8_factOf_5 13 rfl rfl)
theorem dX8_factOf_142 : decode cX8_factOf 142 = .ok (.ireturn, 1) := dk_172 (dk_at dksX8_factOf_5 14 rfl rfl)
abbrev cX8_usesOf : ByteArray := prog_19_method_74_code
def yX8_usesOf : MethodName := ⟨RX8, "usesOf", "(I)I"⟩
def dkwX8_usesOf_1 : List UInt8 := [27, 160, 0, 7, 4, 167, 0, 4, 3, 96, 61, 132, 3, 1, 167, 255, 222, 28, 172]
abbrev dktX8_usesOf_1 : List UInt8 := dkwX8_usesOf_1 ++ []
def dkwX8_usesOf_0 : List UInt8 := [3, 61, 3, 62, 29, 42, 180, 0, 13, 6, 46, 162, 0, 30, 28, 42, 180, 0, 13, 16, 12, 29, 96, 46]
abbrev dktX8_usesOf_0 : List UInt8 := dkwX8_usesOf_0 ++ dktX8_usesOf_1
theorem dksX8_usesOf_0 : cX8_usesOf.data.toList.drop 0 = dktX8_usesOf_0 := by decide +kernel
theorem dksX8_usesOf_1 : cX8_usesOf.data.toList.drop 24 = dktX8_usesOf_1 := dk_seg dksX8_usesOf_0 24 rfl rfl
theorem dX8_usesOf_0 : decode cX8_usesOf 0 = .ok (.iconst 0, 1) := dk_3 (dk_at dksX8_usesOf_0 0 rfl rfl)
theorem dX8_usesOf_1 : decode cX8_usesOf 1 = .ok (.istore_n 2, 1) := dk_61 (dk_at dksX8_usesOf_0 1 rfl rfl)
theorem dX8_usesOf_2 : decode cX8_usesOf 2 = .ok (.iconst 0, 1) := dk_3 (dk_at dksX8_usesOf_0 2 rfl rfl)
theorem dX8_usesOf_3 : decode cX8_usesOf 3 = .ok (.istore_n 3, 1) := dk_62 (dk_at dksX8_usesOf_0 3 rfl rfl)
theorem dX8_usesOf_4 : decode cX8_usesOf 4 = .ok (.iload_n 3, 1) := dk_29 (dk_at dksX8_usesOf_0 4 rfl rfl)
theorem dX8_usesOf_5 : decode cX8_usesOf 5 = .ok (.aload_n 0, 1) := dk_42 (dk_at dksX8_usesOf_0 5 rfl rfl)
theorem dX8_usesOf_6 : decode cX8_usesOf 6 = .ok (.getfield 13, 3) := dk_180 0 13 (dk_at dksX8_usesOf_0 6 rfl rfl)
theorem dX8_usesOf_9 : decode cX8_usesOf 9 = .ok (.iconst 3, 1) := dk_6 (dk_at dksX8_usesOf_0 9 rfl rfl)
theorem dX8_usesOf_10 : decode cX8_usesOf 10 = .ok (.iaload, 1) := dk_46 (dk_at dksX8_usesOf_0 10 rfl rfl)
theorem dX8_usesOf_11 : decode cX8_usesOf 11 = .ok (.if_icmp .ge 30, 3) := dk_162 0 30 (dk_at dksX8_usesOf_0 11 rfl rfl)
theorem dX8_usesOf_14 : decode cX8_usesOf 14 = .ok (.iload_n 2, 1) := dk_28 (dk_at dksX8_usesOf_0 14 rfl rfl)
theorem dX8_usesOf_15 : decode cX8_usesOf 15 = .ok (.aload_n 0, 1) := dk_42 (dk_at dksX8_usesOf_0 15 rfl rfl)
theorem dX8_usesOf_16 : decode cX8_usesOf 16 = .ok (.getfield 13, 3) := dk_180 0 13 (dk_at dksX8_usesOf_0 16 rfl rfl)
theorem dX8_usesOf_19 : decode cX8_usesOf 19 = .ok (.bipush 12, 2) := dk_16 12 (dk_at dksX8_usesOf_0 19 rfl rfl)
theorem dX8_usesOf_21 : decode cX8_usesOf 21 = .ok (.iload_n 3, 1) := dk_29 (dk_at dksX8_usesOf_0 21 rfl rfl)
theorem dX8_usesOf_22 : decode cX8_usesOf 22 = .ok (.iadd, 1) := dk_96 (dk_at dksX8_usesOf_0 22 rfl rfl)
theorem dX8_usesOf_23 : decode cX8_usesOf 23 = .ok (.iaload, 1) := dk_46 (dk_at dksX8_usesOf_0 23 rfl rfl)
theorem dX8_usesOf_24 : decode cX8_usesOf 24 = .ok (.iload_n 1, 1) := dk_27 (dk_at dksX8_usesOf_1 0 rfl rfl)
theorem dX8_usesOf_25 : decode cX8_usesOf 25 = .ok (.if_icmp .ne 7, 3) := dk_160 0 7 (dk_at dksX8_usesOf_1 1 rfl rfl)
theorem dX8_usesOf_28 : decode cX8_usesOf 28 = .ok (.iconst 1, 1) := dk_4 (dk_at dksX8_usesOf_1 4 rfl rfl)
theorem dX8_usesOf_29 : decode cX8_usesOf 29 = .ok (.goto 4, 3) := dk_167 0 4 (dk_at dksX8_usesOf_1 5 rfl rfl)
theorem dX8_usesOf_32 : decode cX8_usesOf 32 = .ok (.iconst 0, 1) := dk_3 (dk_at dksX8_usesOf_1 8 rfl rfl)
theorem dX8_usesOf_33 : decode cX8_usesOf 33 = .ok (.iadd, 1) := dk_96 (dk_at dksX8_usesOf_1 9 rfl rfl)
theorem dX8_usesOf_34 : decode cX8_usesOf 34 = .ok (.istore_n 2, 1) := dk_61 (dk_at dksX8_usesOf_1 10 rfl rfl)
theorem dX8_usesOf_35 : decode cX8_usesOf 35 = .ok (.iinc 3 1, 3) := dk_132 3 1 (dk_at dksX8_usesOf_1 11 rfl rfl)
theorem dX8_usesOf_38 : decode cX8_usesOf 38 = .ok (.goto (-34), 3) := dk_167 255 222 (dk_at dksX8_usesOf_1 14 rfl rfl)
theorem dX8_usesOf_41 : decode cX8_usesOf 41 = .ok (.iload_n 2, 1) := dk_28 (dk_at dksX8_usesOf_1 17 rfl rfl)
theorem dX8_usesOf_42 : decode cX8_usesOf 42 = .ok (.ireturn, 1) := dk_172 (dk_at dksX8_usesOf_1 18 rfl rfl)
abbrev cX8_worthOf : ByteArray := prog_19_method_79_code
def yX8_worthOf : MethodName := ⟨RX8, "worthOf", "(I)I"⟩
def dkwX8_worthOf_0 : List UInt8 := [4, 42, 5, 27, 182, 1, 125, 96, 172]
abbrev dktX8_worthOf_0 : List UInt8 := dkwX8_worthOf_0 ++ []
theorem dksX8_worthOf_0 : cX8_worthOf.data.toList.drop 0 = dktX8_worthOf_0 := by decide +kernel
theorem dX8_worthOf_0 : decode cX8_worthOf 0 = .ok (.iconst 1, 1) := dk_4 (dk_at dksX8_worthOf_0 0 rfl rfl)
theorem dX8_worthOf_1 : decode cX8_worthOf 1 = .ok (.aload_n 0, 1) := dk_42 (dk_at dksX8_worthOf_0 1 rfl rfl)
theorem dX8_worthOf_2 : decode cX8_worthOf 2 = .ok (.iconst 2, 1) := dk_5 (dk_at dksX8_worthOf_0 2 rfl rfl)
theorem dX8_worthOf_3 : decode cX8_worthOf 3 = .ok (.iload_n 1, 1) := dk_27 (dk_at dksX8_worthOf_0 3 rfl rfl)
theorem dX8_worthOf_4 : decode cX8_worthOf 4 = .ok (.invokevirtual 381, 3) := dk_182 1 125 (dk_at dksX8_worthOf_0 4 rfl rfl)
theorem dX8_worthOf_7 : decode cX8_worthOf 7 = .ok (.iadd, 1) := dk_96 (dk_at dksX8_worthOf_0 7 rfl rfl)
theorem dX8_worthOf_8 : decode cX8_worthOf 8 = .ok (.ireturn, 1) := dk_172 (dk_at dksX8_worthOf_0 8 rfl rfl)
abbrev cX8_micro : ByteArray := prog_19_method_91_code
def yX8_micro : MethodName := ⟨RX8, "micro", "(IIZ)I"⟩
def dkwX8_micro_2 : List UInt8 := [182, 1, 45, 167, 0, 9, 42, 27, 28, 182, 1, 42, 172]
abbrev dktX8_micro_2 : List UInt8 := dkwX8_micro_2 ++ []
def dkwX8_micro_1 : List UInt8 := [3, 182, 0, 78, 4, 100, 184, 0, 88, 154, 0, 7, 2, 167, 0, 22, 29, 153, 0, 12, 42, 27, 28]
abbrev dktX8_micro_1 : List UInt8 := dkwX8_micro_1 ++ dktX8_micro_2
def dkwX8_micro_0 : List UInt8 := [42, 3, 181, 0, 3, 42, 42, 27, 182, 1, 177, 4, 182, 1, 24, 153, 0, 5, 3, 172, 28, 3, 42, 27]
abbrev dktX8_micro_0 : List UInt8 := dkwX8_micro_0 ++ dktX8_micro_1
theorem dksX8_micro_0 : cX8_micro.data.toList.drop 0 = dktX8_micro_0 := by decide +kernel
theorem dksX8_micro_1 : cX8_micro.data.toList.drop 24 = dktX8_micro_1 := dk_seg dksX8_micro_0 24 rfl rfl
theorem dksX8_micro_2 : cX8_micro.data.toList.drop 47 = dktX8_micro_2 := dk_seg dksX8_micro_1 23 rfl rfl
theorem dX8_micro_0 : decode cX8_micro 0 = .ok (.aload_n 0, 1) := dk_42 (dk_at dksX8_micro_0 0 rfl rfl)
theorem dX8_micro_1 : decode cX8_micro 1 = .ok (.iconst 0, 1) := dk_3 (dk_at dksX8_micro_0 1 rfl rfl)
theorem dX8_micro_2 : decode cX8_micro 2 = .ok (.putfield 3, 3) := dk_181 0 3 (dk_at dksX8_micro_0 2 rfl rfl)
theorem dX8_micro_5 : decode cX8_micro 5 = .ok (.aload_n 0, 1) := dk_42 (dk_at dksX8_micro_0 5 rfl rfl)
theorem dX8_micro_6 : decode cX8_micro 6 = .ok (.aload_n 0, 1) := dk_42 (dk_at dksX8_micro_0 6 rfl rfl)
theorem dX8_micro_7 : decode cX8_micro 7 = .ok (.iload_n 1, 1) := dk_27 (dk_at dksX8_micro_0 7 rfl rfl)
theorem dX8_micro_8 : decode cX8_micro 8 = .ok (.invokevirtual 433, 3) := dk_182 1 177 (dk_at dksX8_micro_0 8 rfl rfl)
theorem dX8_micro_11 : decode cX8_micro 11 = .ok (.iconst 1, 1) := dk_4 (dk_at dksX8_micro_0 11 rfl rfl)
theorem dX8_micro_12 : decode cX8_micro 12 = .ok (.invokevirtual 280, 3) := dk_182 1 24 (dk_at dksX8_micro_0 12 rfl rfl)
theorem dX8_micro_15 : decode cX8_micro 15 = .ok (.ifCond .eq 5, 3) := dk_153 0 5 (dk_at dksX8_micro_0 15 rfl rfl)
theorem dX8_micro_18 : decode cX8_micro 18 = .ok (.iconst 0, 1) := dk_3 (dk_at dksX8_micro_0 18 rfl rfl)
theorem dX8_micro_19 : decode cX8_micro 19 = .ok (.ireturn, 1) := dk_172 (dk_at dksX8_micro_0 19 rfl rfl)
theorem dX8_micro_20 : decode cX8_micro 20 = .ok (.iload_n 2, 1) := dk_28 (dk_at dksX8_micro_0 20 rfl rfl)
theorem dX8_micro_21 : decode cX8_micro 21 = .ok (.iconst 0, 1) := dk_3 (dk_at dksX8_micro_0 21 rfl rfl)
theorem dX8_micro_22 : decode cX8_micro 22 = .ok (.aload_n 0, 1) := dk_42 (dk_at dksX8_micro_0 22 rfl rfl)
theorem dX8_micro_23 : decode cX8_micro 23 = .ok (.iload_n 1, 1) := dk_27 (dk_at dksX8_micro_0 23 rfl rfl)
theorem dX8_micro_24 : decode cX8_micro 24 = .ok (.iconst 0, 1) := dk_3 (dk_at dksX8_micro_1 0 rfl rfl)
theorem dX8_micro_25 : decode cX8_micro 25 = .ok (.invokevirtual 78, 3) := dk_182 0 78 (dk_at dksX8_micro_1 1 rfl rfl)
theorem dX8_micro_28 : decode cX8_micro 28 = .ok (.iconst 1, 1) := dk_4 (dk_at dksX8_micro_1 4 rfl rfl)
theorem dX8_micro_29 : decode cX8_micro 29 = .ok (.isub, 1) := dk_100 (dk_at dksX8_micro_1 5 rfl rfl)
theorem dX8_micro_30 : decode cX8_micro 30 = .ok (.invokestatic 88, 3) := dk_184 0 88 (dk_at dksX8_micro_1 6 rfl rfl)
theorem dX8_micro_33 : decode cX8_micro 33 = .ok (.ifCond .ne 7, 3) := dk_154 0 7 (dk_at dksX8_micro_1 9 rfl rfl)
theorem dX8_micro_36 : decode cX8_micro 36 = .ok (.iconst (-1), 1) := dk_2 (dk_at dksX8_micro_1 12 rfl rfl)
theorem dX8_micro_37 : decode cX8_micro 37 = .ok (.goto 22, 3) := dk_167 0 22 (dk_at dksX8_micro_1 13 rfl rfl)
theorem dX8_micro_40 : decode cX8_micro 40 = .ok (.iload_n 3, 1) := dk_29 (dk_at dksX8_micro_1 16 rfl rfl)
theorem dX8_micro_41 : decode cX8_micro 41 = .ok (.ifCond .eq 12, 3) := dk_153 0 12 (dk_at dksX8_micro_1 17 rfl rfl)
theorem dX8_micro_44 : decode cX8_micro 44 = .ok (.aload_n 0, 1) := dk_42 (dk_at dksX8_micro_1 20 rfl rfl)
theorem dX8_micro_45 : decode cX8_micro 45 = .ok (.iload_n 1, 1) := dk_27 (dk_at dksX8_micro_1 21 rfl rfl)
theorem dX8_micro_46 : decode cX8_micro 46 = .ok (.iload_n 2, 1) := dk_28 (dk_at dksX8_micro_1 22 rfl rfl)
theorem dX8_micro_47 : decode cX8_micro 47 = .ok (.invokevirtual 301, 3) := dk_182 1 45 (dk_at dksX8_micro_2 0 rfl rfl)
theorem dX8_micro_50 : decode cX8_micro 50 = .ok (.goto 9, 3) := dk_167 0 9 (dk_at dksX8_micro_2 3 rfl rfl)
theorem dX8_micro_53 : decode cX8_micro 53 = .ok (.aload_n 0, 1) := dk_42 (dk_at dksX8_micro_2 6 rfl rfl)
theorem dX8_micro_54 : decode cX8_micro 54 = .ok (.iload_n 1, 1) := dk_27 (dk_at dksX8_micro_2 7 rfl rfl)
theorem dX8_micro_55 : decode cX8_micro 55 = .ok (.iload_n 2, 1) := dk_28 (dk_at dksX8_micro_2 8 rfl rfl)
theorem dX8_micro_56 : decode cX8_micro 56 = .ok (.invokevirtual 298, 3) := dk_182 1 42 (dk_at dksX8_micro_2 9 rfl rfl)
theorem dX8_micro_59 : decode cX8_micro 59 = .ok (.ireturn, 1) := dk_172 (dk_at dksX8_micro_2 12 rfl rfl)
abbrev cX8_witness : ByteArray := prog_19_method_92_code
def yX8_witness : MethodName := ⟨RX8, "witness", "(II)I"⟩
def dkwX8_witness_2 : List UInt8 := [28, 182, 1, 109, 172]
abbrev dktX8_witness_2 : List UInt8 := dkwX8_witness_2 ++ []
def dkwX8_witness_1 : List UInt8 := [184, 0, 88, 154, 0, 7, 4, 167, 0, 4, 3, 5, 182, 1, 24, 153, 0, 7, 3, 167, 0, 9, 42, 27]
abbrev dktX8_witness_1 : List UInt8 := dkwX8_witness_1 ++ dktX8_witness_2
def dkwX8_witness_0 : List UInt8 := [42, 3, 181, 0, 3, 42, 42, 27, 182, 1, 177, 4, 182, 1, 24, 154, 0, 25, 42, 28, 3, 6]
abbrev dktX8_witness_0 : List UInt8 := dkwX8_witness_0 ++ dktX8_witness_1
theorem dksX8_witness_0 : cX8_witness.data.toList.drop 0 = dktX8_witness_0 := by decide +kernel
theorem dksX8_witness_1 : cX8_witness.data.toList.drop 22 = dktX8_witness_1 := dk_seg dksX8_witness_0 22 rfl rfl
theorem dksX8_witness_2 : cX8_witness.data.toList.drop 46 = dktX8_witness_2 := dk_seg dksX8_witness_1 24 rfl rfl
theorem dX8_witness_0 : decode cX8_witness 0 = .ok (.aload_n 0, 1) := dk_42 (dk_at dksX8_witness_0 0 rfl rfl)
theorem dX8_witness_1 : decode cX8_witness 1 = .ok (.iconst 0, 1) := dk_3 (dk_at dksX8_witness_0 1 rfl rfl)
theorem dX8_witness_2 : decode cX8_witness 2 = .ok (.putfield 3, 3) := dk_181 0 3 (dk_at dksX8_witness_0 2 rfl rfl)
theorem dX8_witness_5 : decode cX8_witness 5 = .ok (.aload_n 0, 1) := dk_42 (dk_at dksX8_witness_0 5 rfl rfl)
theorem dX8_witness_6 : decode cX8_witness 6 = .ok (.aload_n 0, 1) := dk_42 (dk_at dksX8_witness_0 6 rfl rfl)
theorem dX8_witness_7 : decode cX8_witness 7 = .ok (.iload_n 1, 1) := dk_27 (dk_at dksX8_witness_0 7 rfl rfl)
theorem dX8_witness_8 : decode cX8_witness 8 = .ok (.invokevirtual 433, 3) := dk_182 1 177 (dk_at dksX8_witness_0 8 rfl rfl)
theorem dX8_witness_11 : decode cX8_witness 11 = .ok (.iconst 1, 1) := dk_4 (dk_at dksX8_witness_0 11 rfl rfl)
theorem dX8_witness_12 : decode cX8_witness 12 = .ok (.invokevirtual 280, 3) := dk_182 1 24 (dk_at dksX8_witness_0 12 rfl rfl)
theorem dX8_witness_15 : decode cX8_witness 15 = .ok (.ifCond .ne 25, 3) := dk_154 0 25 (dk_at dksX8_witness_0 15 rfl rfl)
theorem dX8_witness_18 : decode cX8_witness 18 = .ok (.aload_n 0, 1) := dk_42 (dk_at dksX8_witness_0 18 rfl rfl)
theorem dX8_witness_19 : decode cX8_witness 19 = .ok (.iload_n 2, 1) := dk_28 (dk_at dksX8_witness_0 19 rfl rfl)
theorem dX8_witness_20 : decode cX8_witness 20 = .ok (.iconst 0, 1) := dk_3 (dk_at dksX8_witness_0 20 rfl rfl)
theorem dX8_witness_21 : decode cX8_witness 21 = .ok (.iconst 3, 1) := dk_6 (dk_at dksX8_witness_0 21 rfl rfl)
theorem dX8_witness_22 : decode cX8_witness 22 = .ok (.invokestatic 88, 3) := dk_184 0 88 (dk_at dksX8_witness_1 0 rfl rfl)
theorem dX8_witness_25 : decode cX8_witness 25 = .ok (.ifCond .ne 7, 3) := dk_154 0 7 (dk_at dksX8_witness_1 3 rfl rfl)
theorem dX8_witness_28 : decode cX8_witness 28 = .ok (.iconst 1, 1) := dk_4 (dk_at dksX8_witness_1 6 rfl rfl)
theorem dX8_witness_29 : decode cX8_witness 29 = .ok (.goto 4, 3) := dk_167 0 4 (dk_at dksX8_witness_1 7 rfl rfl)
theorem dX8_witness_32 : decode cX8_witness 32 = .ok (.iconst 0, 1) := dk_3 (dk_at dksX8_witness_1 10 rfl rfl)
theorem dX8_witness_33 : decode cX8_witness 33 = .ok (.iconst 2, 1) := dk_5 (dk_at dksX8_witness_1 11 rfl rfl)
theorem dX8_witness_34 : decode cX8_witness 34 = .ok (.invokevirtual 280, 3) := dk_182 1 24 (dk_at dksX8_witness_1 12 rfl rfl)
theorem dX8_witness_37 : decode cX8_witness 37 = .ok (.ifCond .eq 7, 3) := dk_153 0 7 (dk_at dksX8_witness_1 15 rfl rfl)
theorem dX8_witness_40 : decode cX8_witness 40 = .ok (.iconst 0, 1) := dk_3 (dk_at dksX8_witness_1 18 rfl rfl)
theorem dX8_witness_41 : decode cX8_witness 41 = .ok (.goto 9, 3) := dk_167 0 9 (dk_at dksX8_witness_1 19 rfl rfl)
theorem dX8_witness_44 : decode cX8_witness 44 = .ok (.aload_n 0, 1) := dk_42 (dk_at dksX8_witness_1 22 rfl rfl)
theorem dX8_witness_45 : decode cX8_witness 45 = .ok (.iload_n 1, 1) := dk_27 (dk_at dksX8_witness_1 23 rfl rfl)
theorem dX8_witness_46 : decode cX8_witness 46 = .ok (.iload_n 2, 1) := dk_28 (dk_at dksX8_witness_2 0 rfl rfl)
theorem dX8_witness_47 : decode cX8_witness 47 = .ok (.invokevirtual 365, 3) := dk_182 1 109 (dk_at dksX8_witness_2 1 rfl rfl)
theorem dX8_witness_50 : decode cX8_witness 50 = .ok (.ireturn, 1) := dk_172 (dk_at dksX8_witness_2 4 rfl rfl)
abbrev cX8_done : ByteArray := prog_19_method_93_code
def yX8_done : MethodName := ⟨RX8, "done", "(III)I"⟩
def dkwX8_done_8 : List UInt8 := [167, 0, 4, 3, 172, 42, 180, 0, 39, 29, 8, 100, 46, 172]
abbrev dktX8_done_8 : List UInt8 := dkwX8_done_8 ++ []
def dkwX8_done_7 : List UInt8 := [42, 180, 1, 30, 172, 42, 180, 1, 33, 172, 42, 180, 1, 27, 172, 42, 180, 1, 39, 153, 0, 7, 4]
abbrev dktX8_done_7 : List UInt8 := dkwX8_done_7 ++ dktX8_done_8
def dkwX8_done_6 : List UInt8 := [170, 0, 0, 0, 0, 0, 59, 0, 0, 0, 1, 0, 0, 0, 4, 0, 0, 0, 31, 0, 0, 0, 36, 0, 0, 0, 41, 0, 0, 0, 46]
abbrev dktX8_done_6 : List UInt8 := dkwX8_done_6 ++ dktX8_done_7
def dkwX8_done_5 : List UInt8 := [29]
abbrev dktX8_done_5 : List UInt8 := dkwX8_done_5 ++ dktX8_done_6
def dkwX8_done_4 : List UInt8 := [167, 0, 13, 21, 4, 153, 0, 7, 4, 167, 0, 4, 3, 172, 42, 28, 182, 1, 65, 42, 27, 182, 1, 69]
abbrev dktX8_done_4 : List UInt8 := dkwX8_done_4 ++ dktX8_done_5
def dkwX8_done_3 : List UInt8 := [184, 1, 55, 182, 1, 62, 54, 4, 29, 153, 0, 8, 21, 4, 153, 0, 22, 29, 158, 0, 7, 2]
abbrev dktX8_done_3 : List UInt8 := dkwX8_done_3 ++ dktX8_done_4
def dkwX8_done_2 : List UInt8 := [184, 0, 88, 154, 0, 7, 4, 167, 0, 4, 3, 6, 182, 1, 24, 153, 0, 5, 3, 172, 42, 27, 28]
abbrev dktX8_done_2 : List UInt8 := dkwX8_done_2 ++ dktX8_done_3
def dkwX8_done_1 : List UInt8 := [184, 0, 88, 154, 0, 7, 4, 167, 0, 4, 3, 5, 182, 1, 24, 154, 0, 26, 42, 29, 3, 16, 12]
abbrev dktX8_done_1 : List UInt8 := dkwX8_done_1 ++ dktX8_done_2
def dkwX8_done_0 : List UInt8 := [42, 3, 181, 0, 3, 42, 42, 27, 182, 1, 177, 4, 182, 1, 24, 154, 0, 50, 42, 28, 3, 17, 1, 255]
abbrev dktX8_done_0 : List UInt8 := dkwX8_done_0 ++ dktX8_done_1
theorem dksX8_done_0 : cX8_done.data.toList.drop 0 = dktX8_done_0 := by decide +kernel
theorem dksX8_done_1 : cX8_done.data.toList.drop 24 = dktX8_done_1 := dk_seg dksX8_done_0 24 rfl rfl
theorem dksX8_done_2 : cX8_done.data.toList.drop 47 = dktX8_done_2 := dk_seg dksX8_done_1 23 rfl rfl
theorem dksX8_done_3 : cX8_done.data.toList.drop 70 = dktX8_done_3 := dk_seg dksX8_done_2 23 rfl rfl
theorem dksX8_done_4 : cX8_done.data.toList.drop 92 = dktX8_done_4 := dk_seg dksX8_done_3 22 rfl rfl
theorem dksX8_done_5 : cX8_done.data.toList.drop 116 = dktX8_done_5 := dk_seg dksX8_done_4 24 rfl rfl
theorem dksX8_done_6 : cX8_done.data.toList.drop 117 = dktX8_done_6 := dk_seg dksX8_done_5 1 rfl rfl
theorem dksX8_done_7 : cX8_done.data.toList.drop 148 = dktX8_done_7 := dk_seg dksX8_done_6 31 rfl rfl
theorem dksX8_done_8 : cX8_done.data.toList.drop 171 = dktX8_done_8 := dk_seg dksX8_done_7 23 rfl rfl
theorem dX8_done_0 : decode cX8_done 0 = .ok (.aload_n 0, 1) := dk_42 (dk_at dksX8_done_0 0 rfl rfl)
theorem dX8_done_1 : decode cX8_done 1 = .ok (.iconst 0, 1) := dk_3 (dk_at dksX8_done_0 1 rfl rfl)
theorem dX8_done_2 : decode cX8_done 2 = .ok (.putfield 3, 3) := dk_181 0 3 (dk_at dksX8_done_0 2 rfl rfl)
theorem dX8_done_5 : decode cX8_done 5 = .ok (.aload_n 0, 1) := dk_42 (dk_at dksX8_done_0 5 rfl rfl)
theorem dX8_done_6 : decode cX8_done 6 = .ok (.aload_n 0, 1) := dk_42 (dk_at dksX8_done_0 6 rfl rfl)
theorem dX8_done_7 : decode cX8_done 7 = .ok (.iload_n 1, 1) := dk_27 (dk_at dksX8_done_0 7 rfl rfl)
theorem dX8_done_8 : decode cX8_done 8 = .ok (.invokevirtual 433, 3) := dk_182 1 177 (dk_at dksX8_done_0 8 rfl rfl)
theorem dX8_done_11 : decode cX8_done 11 = .ok (.iconst 1, 1) := dk_4 (dk_at dksX8_done_0 11 rfl rfl)
theorem dX8_done_12 : decode cX8_done 12 = .ok (.invokevirtual 280, 3) := dk_182 1 24 (dk_at dksX8_done_0 12 rfl rfl)
theorem dX8_done_15 : decode cX8_done 15 = .ok (.ifCond .ne 50, 3) := dk_154 0 50 (dk_at dksX8_done_0 15 rfl rfl)
theorem dX8_done_18 : decode cX8_done 18 = .ok (.aload_n 0, 1) := dk_42 (dk_at dksX8_done_0 18 rfl rfl)
theorem dX8_done_19 : decode cX8_done 19 = .ok (.iload_n 2, 1) := dk_28 (dk_at dksX8_done_0 19 rfl rfl)
theorem dX8_done_20 : decode cX8_done 20 = .ok (.iconst 0, 1) := dk_3 (dk_at dksX8_done_0 20 rfl rfl)
theorem dX8_done_21 : decode cX8_done 21 = .ok (.sipush 511, 3) := dk_17 1 255 (dk_at dksX8_done_0 21 rfl rfl)
theorem dX8_done_24 : decode cX8_done 24 = .ok (.invokestatic 88, 3) := dk_184 0 88 (dk_at dksX8_done_1 0 rfl rfl)
theorem dX8_done_27 : decode cX8_done 27 = .ok (.ifCond .ne 7, 3) := dk_154 0 7 (dk_at dksX8_done_1 3 rfl rfl)
theorem dX8_done_30 : decode cX8_done 30 = .ok (.iconst 1, 1) := dk_4 (dk_at dksX8_done_1 6 rfl rfl)
theorem dX8_done_31 : decode cX8_done 31 = .ok (.goto 4, 3) := dk_167 0 4 (dk_at dksX8_done_1 7 rfl rfl)
theorem dX8_done_34 : decode cX8_done 34 = .ok (.iconst 0, 1) := dk_3 (dk_at dksX8_done_1 10 rfl rfl)
theorem dX8_done_35 : decode cX8_done 35 = .ok (.iconst 2, 1) := dk_5 (dk_at dksX8_done_1 11 rfl rfl)
theorem dX8_done_36 : decode cX8_done 36 = .ok (.invokevirtual 280, 3) := dk_182 1 24 (dk_at dksX8_done_1 12 rfl rfl)
theorem dX8_done_39 : decode cX8_done 39 = .ok (.ifCond .ne 26, 3) := dk_154 0 26 (dk_at dksX8_done_1 15 rfl rfl)
theorem dX8_done_42 : decode cX8_done 42 = .ok (.aload_n 0, 1) := dk_42 (dk_at dksX8_done_1 18 rfl rfl)
theorem dX8_done_43 : decode cX8_done 43 = .ok (.iload_n 3, 1) := dk_29 (dk_at dksX8_done_1 19 rfl rfl)
theorem dX8_done_44 : decode cX8_done 44 = .ok (.iconst 0, 1) := dk_3 (dk_at dksX8_done_1 20 rfl rfl)
theorem dX8_done_45 : decode cX8_done 45 = .ok (.bipush 12, 2) := dk_16 12 (dk_at dksX8_done_1 21 rfl rfl)
theorem dX8_done_47 : decode cX8_done 47 = .ok (.invokestatic 88, 3) := dk_184 0 88 (dk_at dksX8_done_2 0 rfl rfl)
theorem dX8_done_50 : decode cX8_done 50 = .ok (.ifCond .ne 7, 3) := dk_154 0 7 (dk_at dksX8_done_2 3 rfl rfl)
theorem dX8_done_53 : decode cX8_done 53 = .ok (.iconst 1, 1) := dk_4 (dk_at dksX8_done_2 6 rfl rfl)
theorem dX8_done_54 : decode cX8_done 54 = .ok (.goto 4, 3) := dk_167 0 4 (dk_at dksX8_done_2 7 rfl rfl)
theorem dX8_done_57 : decode cX8_done 57 = .ok (.iconst 0, 1) := dk_3 (dk_at dksX8_done_2 10 rfl rfl)
theorem dX8_done_58 : decode cX8_done 58 = .ok (.iconst 3, 1) := dk_6 (dk_at dksX8_done_2 11 rfl rfl)
theorem dX8_done_59 : decode cX8_done 59 = .ok (.invokevirtual 280, 3) := dk_182 1 24 (dk_at dksX8_done_2 12 rfl rfl)
theorem dX8_done_62 : decode cX8_done 62 = .ok (.ifCond .eq 5, 3) := dk_153 0 5 (dk_at dksX8_done_2 15 rfl rfl)
theorem dX8_done_65 : decode cX8_done 65 = .ok (.iconst 0, 1) := dk_3 (dk_at dksX8_done_2 18 rfl rfl)
theorem dX8_done_66 : decode cX8_done 66 = .ok (.ireturn, 1) := dk_172 (dk_at dksX8_done_2 19 rfl rfl)
theorem dX8_done_67 : decode cX8_done 67 = .ok (.aload_n 0, 1) := dk_42 (dk_at dksX8_done_2 20 rfl rfl)
theorem dX8_done_68 : decode cX8_done 68 = .ok (.iload_n 1, 1) := dk_27 (dk_at dksX8_done_2 21 rfl rfl)
theorem dX8_done_69 : decode cX8_done 69 = .ok (.iload_n 2, 1) := dk_28 (dk_at dksX8_done_2 22 rfl rfl)
theorem dX8_done_70 : decode cX8_done 70 = .ok (.invokestatic 311, 3) := dk_184 1 55 (dk_at dksX8_done_3 0 rfl rfl)
theorem dX8_done_73 : decode cX8_done 73 = .ok (.invokevirtual 318, 3) := dk_182 1 62 (dk_at dksX8_done_3 3 rfl rfl)
theorem dX8_done_76 : decode cX8_done 76 = .ok (.istore 4, 2) := dk_54 4 (dk_at dksX8_done_3 6 rfl rfl)
theorem dX8_done_78 : decode cX8_done 78 = .ok (.iload_n 3, 1) := dk_29 (dk_at dksX8_done_3 8 rfl rfl)
theorem dX8_done_79 : decode cX8_done 79 = .ok (.ifCond .eq 8, 3) := dk_153 0 8 (dk_at dksX8_done_3 9 rfl rfl)
theorem dX8_done_82 : decode cX8_done 82 = .ok (.iload 4, 2) := dk_21 4 (dk_at dksX8_done_3 12 rfl rfl)
theorem dX8_done_84 : decode cX8_done 84 = .ok (.ifCond .eq 22, 3) := dk_153 0 22 (dk_at dksX8_done_3 14 rfl rfl)
theorem dX8_done_87 : decode cX8_done 87 = .ok (.iload_n 3, 1) := dk_29 (dk_at dksX8_done_3 17 rfl rfl)
theorem dX8_done_88 : decode cX8_done 88 = .ok (.ifCond .le 7, 3) := dk_158 0 7 (dk_at dksX8_done_3 18 rfl rfl)
theorem dX8_done_91 : decode cX8_done 91 = .ok (.iconst (-1), 1) := dk_2 (dk_at dksX8_done_3 21 rfl rfl)
theorem dX8_done_92 : decode cX8_done 92 = .ok (.goto 13, 3) := dk_167 0 13 (dk_at dksX8_done_4 0 rfl rfl)
theorem dX8_done_95 : decode cX8_done 95 = .ok (.iload 4, 2) := dk_21 4 (dk_at dksX8_done_4 3 rfl rfl)
theorem dX8_done_97 : decode cX8_done 97 = .ok (.ifCond .eq 7, 3) := dk_153 0 7 (dk_at dksX8_done_4 5 rfl rfl)
theorem dX8_done_100 : decode cX8_done 100 = .ok (.iconst 1, 1) := dk_4 (dk_at dksX8_done_4 8 rfl rfl)
theorem dX8_done_101 : decode cX8_done 101 = .ok (.goto 4, 3) := dk_167 0 4 (dk_at dksX8_done_4 9 rfl rfl)
theorem dX8_done_104 : decode cX8_done 104 = .ok (.iconst 0, 1) := dk_3 (dk_at dksX8_done_4 12 rfl rfl)
theorem dX8_done_105 : decode cX8_done 105 = .ok (.ireturn, 1) := dk_172 (dk_at dksX8_done_4 13 rfl rfl)
theorem dX8_done_106 : decode cX8_done 106 = .ok (.aload_n 0, 1) := dk_42 (dk_at dksX8_done_4 14 rfl rfl)
theorem dX8_done_107 : decode cX8_done 107 = .ok (.iload_n 2, 1) := dk_28 (dk_at dksX8_done_4 15 rfl rfl)
theorem dX8_done_108 : decode cX8_done 108 = .ok (.invokevirtual 321, 3) := dk_182 1 65 (dk_at dksX8_done_4 16 rfl rfl)
theorem dX8_done_111 : decode cX8_done 111 = .ok (.aload_n 0, 1) := dk_42 (dk_at dksX8_done_4 19 rfl rfl)
theorem dX8_done_112 : decode cX8_done 112 = .ok (.iload_n 1, 1) := dk_27 (dk_at dksX8_done_4 20 rfl rfl)
theorem dX8_done_113 : decode cX8_done 113 = .ok (.invokevirtual 325, 3) := dk_182 1 69 (dk_at dksX8_done_4 21 rfl rfl)
theorem dX8_done_116 : decode cX8_done 116 = .ok (.iload_n 3, 1) := dk_29 (dk_at dksX8_done_5 0 rfl rfl)
theorem dX8_done_117 : decode cX8_done 117 = .ok (.tableswitch 59 1 4 #[31, 36, 41, 46], 31) := by decide +kernel
theorem dX8_done_148 : decode cX8_done 148 = .ok (.aload_n 0, 1) := dk_42 (dk_at dksX8_done_7 0 rfl rfl)
theorem dX8_done_149 : decode cX8_done 149 = .ok (.getfield 286, 3) := dk_180 1 30 (dk_at dksX8_done_7 1 rfl rfl)
theorem dX8_done_152 : decode cX8_done 152 = .ok (.ireturn, 1) := dk_172 (dk_at dksX8_done_7 4 rfl rfl)
theorem dX8_done_153 : decode cX8_done 153 = .ok (.aload_n 0, 1) := dk_42 (dk_at dksX8_done_7 5 rfl rfl)
theorem dX8_done_154 : decode cX8_done 154 = .ok (.getfield 289, 3) := dk_180 1 33 (dk_at dksX8_done_7 6 rfl rfl)
theorem dX8_done_157 : decode cX8_done 157 = .ok (.ireturn, 1) := dk_172 (dk_at dksX8_done_7 9 rfl rfl)
theorem dX8_done_158 : decode cX8_done 158 = .ok (.aload_n 0, 1) := dk_42 (dk_at dksX8_done_7 10 rfl rfl)
theorem dX8_done_159 : decode cX8_done 159 = .ok (.getfield 283, 3) := dk_180 1 27 (dk_at dksX8_done_7 11 rfl rfl)
theorem dX8_done_162 : decode cX8_done 162 = .ok (.ireturn, 1) := dk_172 (dk_at dksX8_done_7 14 rfl rfl)
theorem dX8_done_163 : decode cX8_done 163 = .ok (.aload_n 0, 1) := dk_42 (dk_at dksX8_done_7 15 rfl rfl)
theorem dX8_done_164 : decode cX8_done 164 = .ok (.getfield 295, 3) := dk_180 1 39 (dk_at dksX8_done_7 16 rfl rfl)
theorem dX8_done_167 : decode cX8_done 167 = .ok (.ifCond .eq 7, 3) := dk_153 0 7 (dk_at dksX8_done_7 19 rfl rfl)
theorem dX8_done_170 : decode cX8_done 170 = .ok (.iconst 1, 1) := dk_4 (dk_at dksX8_done_7 22 rfl rfl)
theorem dX8_done_171 : decode cX8_done 171 = .ok (.goto 4, 3) := dk_167 0 4 (dk_at dksX8_done_8 0 rfl rfl)
theorem dX8_done_174 : decode cX8_done 174 = .ok (.iconst 0, 1) := dk_3 (dk_at dksX8_done_8 3 rfl rfl)
theorem dX8_done_175 : decode cX8_done 175 = .ok (.ireturn, 1) := dk_172 (dk_at dksX8_done_8 4 rfl rfl)
theorem dX8_done_176 : decode cX8_done 176 = .ok (.aload_n 0, 1) := dk_42 (dk_at dksX8_done_8 5 rfl rfl)
theorem dX8_done_177 : decode cX8_done 177 = .ok (.getfield 39, 3) := dk_180 0 39 (dk_at dksX8_done_8 6 rfl rfl)
theorem dX8_done_180 : decode cX8_done 180 = .ok (.iload_n 3, 1) := dk_29 (dk_at dksX8_done_8 9 rfl rfl)
theorem dX8_done_181 : decode cX8_done 181 = .ok (.iconst 5, 1) := dk_8 (dk_at dksX8_done_8 10 rfl rfl)
theorem dX8_done_182 : decode cX8_done 182 = .ok (.isub, 1) := dk_100 (dk_at dksX8_done_8 11 rfl rfl)
theorem dX8_done_183 : decode cX8_done 183 = .ok (.iaload, 1) := dk_46 (dk_at dksX8_done_8 12 rfl rfl)
theorem dX8_done_184 : decode cX8_done 184 = .ok (.ireturn, 1) := dk_172 (dk_at dksX8_done_8 13 rfl rfl)
abbrev cX8_program : ByteArray := prog_19_method_94_code
def yX8_program : MethodName := ⟨RX8, "program", "(I)I"⟩
def dkwX8_program_1 : List UInt8 := [180, 0, 13, 16, 12, 27, 96, 46, 167, 0, 4, 2, 172]
abbrev dktX8_program_1 : List UInt8 := dkwX8_program_1 ++ []
def dkwX8_program_0 : List UInt8 := [42, 3, 181, 0, 3, 27, 3, 42, 180, 0, 13, 6, 46, 4, 100, 184, 0, 88, 153, 0, 15, 42]
abbrev dktX8_program_0 : List UInt8 := dkwX8_program_0 ++ dktX8_program_1
theorem dksX8_program_0 : cX8_program.data.toList.drop 0 = dktX8_program_0 := by decide +kernel
theorem dksX8_program_1 : cX8_program.data.toList.drop 22 = dktX8_program_1 := dk_seg dksX8_program_0 22 rfl rfl
theorem dX8_program_0 : decode cX8_program 0 = .ok (.aload_n 0, 1) := dk_42 (dk_at dksX8_program_0 0 rfl rfl)
theorem dX8_program_1 : decode cX8_program 1 = .ok (.iconst 0, 1) := dk_3 (dk_at dksX8_program_0 1 rfl rfl)
theorem dX8_program_2 : decode cX8_program 2 = .ok (.putfield 3, 3) := dk_181 0 3 (dk_at dksX8_program_0 2 rfl rfl)
theorem dX8_program_5 : decode cX8_program 5 = .ok (.iload_n 1, 1) := dk_27 (dk_at dksX8_program_0 5 rfl rfl)
theorem dX8_program_6 : decode cX8_program 6 = .ok (.iconst 0, 1) := dk_3 (dk_at dksX8_program_0 6 rfl rfl)
theorem dX8_program_7 : decode cX8_program 7 = .ok (.aload_n 0, 1) := dk_42 (dk_at dksX8_program_0 7 rfl rfl)
theorem dX8_program_8 : decode cX8_program 8 = .ok (.getfield 13, 3) := dk_180 0 13 (dk_at dksX8_program_0 8 rfl rfl)
theorem dX8_program_11 : decode cX8_program 11 = .ok (.iconst 3, 1) := dk_6 (dk_at dksX8_program_0 11 rfl rfl)
theorem dX8_program_12 : decode cX8_program 12 = .ok (.iaload, 1) := dk_46 (dk_at dksX8_program_0 12 rfl rfl)
theorem dX8_program_13 : decode cX8_program 13 = .ok (.iconst 1, 1) := dk_4 (dk_at dksX8_program_0 13 rfl rfl)
theorem dX8_program_14 : decode cX8_program 14 = .ok (.isub, 1) := dk_100 (dk_at dksX8_program_0 14 rfl rfl)
theorem dX8_program_15 : decode cX8_program 15 = .ok (.invokestatic 88, 3) := dk_184 0 88 (dk_at dksX8_program_0 15 rfl rfl)
theorem dX8_program_18 : decode cX8_program 18 = .ok (.ifCond .eq 15, 3) := dk_153 0 15 (dk_at dksX8_program_0 18 rfl rfl)
theorem dX8_program_21 : decode cX8_program 21 = .ok (.aload_n 0, 1) := dk_42 (dk_at dksX8_program_0 21 rfl rfl)
theorem dX8_program_22 : decode cX8_program 22 = .ok (.getfield 13, 3) := dk_180 0 13 (dk_at dksX8_program_1 0 rfl rfl)
theorem dX8_program_25 : decode cX8_program 25 = .ok (.bipush 12, 2) := dk_16 12 (dk_at dksX8_program_1 3 rfl rfl)
theorem dX8_program_27 : decode cX8_program 27 = .ok (.iload_n 1, 1) := dk_27 (dk_at dksX8_program_1 5 rfl rfl)
theorem dX8_program_28 : decode cX8_program 28 = .ok (.iadd, 1) := dk_96 (dk_at dksX8_program_1 6 rfl rfl)
theorem dX8_program_29 : decode cX8_program 29 = .ok (.iaload, 1) := dk_46 (dk_at dksX8_program_1 7 rfl rfl)
theorem dX8_program_30 : decode cX8_program 30 = .ok (.goto 4, 3) := dk_167 0 4 (dk_at dksX8_program_1 8 rfl rfl)
theorem dX8_program_33 : decode cX8_program 33 = .ok (.iconst (-1), 1) := dk_2 (dk_at dksX8_program_1 11 rfl rfl)
theorem dX8_program_34 : decode cX8_program 34 = .ok (.ireturn, 1) := dk_172 (dk_at dksX8_program_1 12 rfl rfl)
abbrev cX8_cell : ByteArray := prog_19_method_96_code
def yX8_cell : MethodName := ⟨RX8, "cell", "(I)I"⟩
def dkwX8_cell_1 : List UInt8 := [180, 0, 13, 16, 22, 27, 96, 46, 172]
abbrev dktX8_cell_1 : List UInt8 := dkwX8_cell_1 ++ []
def dkwX8_cell_0 : List UInt8 := [42, 3, 181, 0, 3, 42, 42, 27, 182, 1, 180, 4, 182, 1, 24, 153, 0, 7, 3, 167, 0, 12, 42]
abbrev dktX8_cell_0 : List UInt8 := dkwX8_cell_0 ++ dktX8_cell_1
theorem dksX8_cell_0 : cX8_cell.data.toList.drop 0 = dktX8_cell_0 := by decide +kernel
theorem dksX8_cell_1 : cX8_cell.data.toList.drop 23 = dktX8_cell_1 := dk_seg dksX8_cell_0 23 rfl rfl
theorem dX8_cell_0 : decode cX8_cell 0 = .ok (.aload_n 0, 1) := dk_42 (dk_at dksX8_cell_0 0 rfl rfl)
theorem dX8_cell_1 : decode cX8_cell 1 = .ok (.iconst 0, 1) := dk_3 (dk_at dksX8_cell_0 1 rfl rfl)
theorem dX8_cell_2 : decode cX8_cell 2 = .ok (.putfield 3, 3) := dk_181 0 3 (dk_at dksX8_cell_0 2 rfl rfl)
theorem dX8_cell_5 : decode cX8_cell 5 = .ok (.aload_n 0, 1) := dk_42 (dk_at dksX8_cell_0 5 rfl rfl)
theorem dX8_cell_6 : decode cX8_cell 6 = .ok (.aload_n 0, 1) := dk_42 (dk_at dksX8_cell_0 6 rfl rfl)
theorem dX8_cell_7 : decode cX8_cell 7 = .ok (.iload_n 1, 1) := dk_27 (dk_at dksX8_cell_0 7 rfl rfl)
theorem dX8_cell_8 : decode cX8_cell 8 = .ok (.invokevirtual 436, 3) := dk_182 1 180 (dk_at dksX8_cell_0 8 rfl rfl)
theorem dX8_cell_11 : decode cX8_cell 11 = .ok (.iconst 1, 1) := dk_4 (dk_at dksX8_cell_0 11 rfl rfl)
theorem dX8_cell_12 : decode cX8_cell 12 = .ok (.invokevirtual 280, 3) := dk_182 1 24 (dk_at dksX8_cell_0 12 rfl rfl)
theorem dX8_cell_15 : decode cX8_cell 15 = .ok (.ifCond .eq 7, 3) := dk_153 0 7 (dk_at dksX8_cell_0 15 rfl rfl)
theorem dX8_cell_18 : decode cX8_cell 18 = .ok (.iconst 0, 1) := dk_3 (dk_at dksX8_cell_0 18 rfl rfl)
theorem dX8_cell_19 : decode cX8_cell 19 = .ok (.goto 12, 3) := dk_167 0 12 (dk_at dksX8_cell_0 19 rfl rfl)
theorem dX8_cell_22 : decode cX8_cell 22 = .ok (.aload_n 0, 1) := dk_42 (dk_at dksX8_cell_0 22 rfl rfl)
theorem dX8_cell_23 : decode cX8_cell 23 = .ok (.getfield 13, 3) := dk_180 0 13 (dk_at dksX8_cell_1 0 rfl rfl)
theorem dX8_cell_26 : decode cX8_cell 26 = .ok (.bipush 22, 2) := dk_16 22 (dk_at dksX8_cell_1 3 rfl rfl)
theorem dX8_cell_28 : decode cX8_cell 28 = .ok (.iload_n 1, 1) := dk_27 (dk_at dksX8_cell_1 5 rfl rfl)
theorem dX8_cell_29 : decode cX8_cell 29 = .ok (.iadd, 1) := dk_96 (dk_at dksX8_cell_1 6 rfl rfl)
theorem dX8_cell_30 : decode cX8_cell 30 = .ok (.iaload, 1) := dk_46 (dk_at dksX8_cell_1 7 rfl rfl)
theorem dX8_cell_31 : decode cX8_cell 31 = .ok (.ireturn, 1) := dk_172 (dk_at dksX8_cell_1 8 rfl rfl)
abbrev cX8_noCell : ByteArray := prog_19_method_95_code
def yX8_noCell : MethodName := ⟨RX8, "noCell", "(I)Z"⟩
def dkwX8_noCell_0 : List UInt8 := [27, 3, 16, 7, 184, 0, 88, 154, 0, 7, 4, 167, 0, 4, 3, 172]
abbrev dktX8_noCell_0 : List UInt8 := dkwX8_noCell_0 ++ []
theorem dksX8_noCell_0 : cX8_noCell.data.toList.drop 0 = dktX8_noCell_0 := by decide +kernel
theorem dX8_noCell_0 : decode cX8_noCell 0 = .ok (.iload_n 1, 1) := dk_27 (dk_at dksX8_noCell_0 0 rfl rfl)
theorem dX8_noCell_1 : decode cX8_noCell 1 = .ok (.iconst 0, 1) := dk_3 (dk_at dksX8_noCell_0 1 rfl rfl)
theorem dX8_noCell_2 : decode cX8_noCell 2 = .ok (.bipush 7, 2) := dk_16 7 (dk_at dksX8_noCell_0 2 rfl rfl)
theorem dX8_noCell_4 : decode cX8_noCell 4 = .ok (.invokestatic 88, 3) := dk_184 0 88 (dk_at dksX8_noCell_0 4 rfl rfl)
theorem dX8_noCell_7 : decode cX8_noCell 7 = .ok (.ifCond .ne 7, 3) := dk_154 0 7 (dk_at dksX8_noCell_0 7 rfl rfl)
theorem dX8_noCell_10 : decode cX8_noCell 10 = .ok (.iconst 1, 1) := dk_4 (dk_at dksX8_noCell_0 10 rfl rfl)
theorem dX8_noCell_11 : decode cX8_noCell 11 = .ok (.goto 4, 3) := dk_167 0 4 (dk_at dksX8_noCell_0 11 rfl rfl)
theorem dX8_noCell_14 : decode cX8_noCell 14 = .ok (.iconst 0, 1) := dk_3 (dk_at dksX8_noCell_0 14 rfl rfl)
theorem dX8_noCell_15 : decode cX8_noCell 15 = .ok (.ireturn, 1) := dk_172 (dk_at dksX8_noCell_0 15 rfl rfl)
abbrev cX8_guest : ByteArray := prog_19_method_97_code
def yX8_guest : MethodName := ⟨RX8, "guest", "(ZI)I"⟩
def dkwX8_guest_3 : List UInt8 := [167, 0, 6, 28, 4, 100, 182, 1, 128, 172]
abbrev dktX8_guest_3 : List UInt8 := dkwX8_guest_3 ++ []
def dkwX8_guest_2 : List UInt8 := [29, 182, 1, 136, 153, 0, 7, 4, 167, 0, 24, 3, 167, 0, 20, 42, 29, 28, 8, 162, 0, 7, 28]
abbrev dktX8_guest_2 : List UInt8 := dkwX8_guest_2 ++ dktX8_guest_3
def dkwX8_guest_1 : List UInt8 := [182, 1, 24, 153, 0, 5, 3, 172, 27, 153, 0, 7, 4, 167, 0, 4, 3, 62, 28, 8, 160, 0, 19, 42]
abbrev dktX8_guest_1 : List UInt8 := dkwX8_guest_1 ++ dktX8_guest_2
def dkwX8_guest_0 : List UInt8 := [42, 3, 181, 0, 3, 42, 28, 3, 16, 13, 184, 0, 88, 154, 0, 7, 4, 167, 0, 4, 3, 4]
abbrev dktX8_guest_0 : List UInt8 := dkwX8_guest_0 ++ dktX8_guest_1
theorem dksX8_guest_0 : cX8_guest.data.toList.drop 0 = dktX8_guest_0 := by decide +kernel
theorem dksX8_guest_1 : cX8_guest.data.toList.drop 22 = dktX8_guest_1 := dk_seg dksX8_guest_0 22 rfl rfl
theorem dksX8_guest_2 : cX8_guest.data.toList.drop 46 = dktX8_guest_2 := dk_seg dksX8_guest_1 24 rfl rfl
theorem dksX8_guest_3 : cX8_guest.data.toList.drop 69 = dktX8_guest_3 := dk_seg dksX8_guest_2 23 rfl rfl
theorem dX8_guest_0 : decode cX8_guest 0 = .ok (.aload_n 0, 1) := dk_42 (dk_at dksX8_guest_0 0 rfl rfl)
theorem dX8_guest_1 : decode cX8_guest 1 = .ok (.iconst 0, 1) := dk_3 (dk_at dksX8_guest_0 1 rfl rfl)
theorem dX8_guest_2 : decode cX8_guest 2 = .ok (.putfield 3, 3) := dk_181 0 3 (dk_at dksX8_guest_0 2 rfl rfl)
theorem dX8_guest_5 : decode cX8_guest 5 = .ok (.aload_n 0, 1) := dk_42 (dk_at dksX8_guest_0 5 rfl rfl)
theorem dX8_guest_6 : decode cX8_guest 6 = .ok (.iload_n 2, 1) := dk_28 (dk_at dksX8_guest_0 6 rfl rfl)
theorem dX8_guest_7 : decode cX8_guest 7 = .ok (.iconst 0, 1) := dk_3 (dk_at dksX8_guest_0 7 rfl rfl)
theorem dX8_guest_8 : decode cX8_guest 8 = .ok (.bipush 13, 2) := dk_16 13 (dk_at dksX8_guest_0 8 rfl rfl)
theorem dX8_guest_10 : decode cX8_guest 10 = .ok (.invokestatic 88, 3) := dk_184 0 88 (dk_at dksX8_guest_0 10 rfl rfl)
theorem dX8_guest_13 : decode cX8_guest 13 = .ok (.ifCond .ne 7, 3) := dk_154 0 7 (dk_at dksX8_guest_0 13 rfl rfl)
theorem dX8_guest_16 : decode cX8_guest 16 = .ok (.iconst 1, 1) := dk_4 (dk_at dksX8_guest_0 16 rfl rfl)
theorem dX8_guest_17 : decode cX8_guest 17 = .ok (.goto 4, 3) := dk_167 0 4 (dk_at dksX8_guest_0 17 rfl rfl)
theorem dX8_guest_20 : decode cX8_guest 20 = .ok (.iconst 0, 1) := dk_3 (dk_at dksX8_guest_0 20 rfl rfl)
theorem dX8_guest_21 : decode cX8_guest 21 = .ok (.iconst 1, 1) := dk_4 (dk_at dksX8_guest_0 21 rfl rfl)
theorem dX8_guest_22 : decode cX8_guest 22 = .ok (.invokevirtual 280, 3) := dk_182 1 24 (dk_at dksX8_guest_1 0 rfl rfl)
theorem dX8_guest_25 : decode cX8_guest 25 = .ok (.ifCond .eq 5, 3) := dk_153 0 5 (dk_at dksX8_guest_1 3 rfl rfl)
theorem dX8_guest_28 : decode cX8_guest 28 = .ok (.iconst 0, 1) := dk_3 (dk_at dksX8_guest_1 6 rfl rfl)
theorem dX8_guest_29 : decode cX8_guest 29 = .ok (.ireturn, 1) := dk_172 (dk_at dksX8_guest_1 7 rfl rfl)
theorem dX8_guest_30 : decode cX8_guest 30 = .ok (.iload_n 1, 1) := dk_27 (dk_at dksX8_guest_1 8 rfl rfl)
theorem dX8_guest_31 : decode cX8_guest 31 = .ok (.ifCond .eq 7, 3) := dk_153 0 7 (dk_at dksX8_guest_1 9 rfl rfl)
theorem dX8_guest_34 : decode cX8_guest 34 = .ok (.iconst 1, 1) := dk_4 (dk_at dksX8_guest_1 12 rfl rfl)
theorem dX8_guest_35 : decode cX8_guest 35 = .ok (.goto 4, 3) := dk_167 0 4 (dk_at dksX8_guest_1 13 rfl rfl)
theorem dX8_guest_38 : decode cX8_guest 38 = .ok (.iconst 0, 1) := dk_3 (dk_at dksX8_guest_1 16 rfl rfl)
theorem dX8_guest_39 : decode cX8_guest 39 = .ok (.istore_n 3, 1) := dk_62 (dk_at dksX8_guest_1 17 rfl rfl)
theorem dX8_guest_40 : decode cX8_guest 40 = .ok (.iload_n 2, 1) := dk_28 (dk_at dksX8_guest_1 18 rfl rfl)
theorem dX8_guest_41 : decode cX8_guest 41 = .ok (.iconst 5, 1) := dk_8 (dk_at dksX8_guest_1 19 rfl rfl)
theorem dX8_guest_42 : decode cX8_guest 42 = .ok (.if_icmp .ne 19, 3) := dk_160 0 19 (dk_at dksX8_guest_1 20 rfl rfl)
theorem dX8_guest_45 : decode cX8_guest 45 = .ok (.aload_n 0, 1) := dk_42 (dk_at dksX8_guest_1 23 rfl rfl)
theorem dX8_guest_46 : decode cX8_guest 46 = .ok (.iload_n 3, 1) := dk_29 (dk_at dksX8_guest_2 0 rfl rfl)
theorem dX8_guest_47 : decode cX8_guest 47 = .ok (.invokevirtual 392, 3) := dk_182 1 136 (dk_at dksX8_guest_2 1 rfl rfl)
theorem dX8_guest_50 : decode cX8_guest 50 = .ok (.ifCond .eq 7, 3) := dk_153 0 7 (dk_at dksX8_guest_2 4 rfl rfl)
theorem dX8_guest_53 : decode cX8_guest 53 = .ok (.iconst 1, 1) := dk_4 (dk_at dksX8_guest_2 7 rfl rfl)
theorem dX8_guest_54 : decode cX8_guest 54 = .ok (.goto 24, 3) := dk_167 0 24 (dk_at dksX8_guest_2 8 rfl rfl)
theorem dX8_guest_57 : decode cX8_guest 57 = .ok (.iconst 0, 1) := dk_3 (dk_at dksX8_guest_2 11 rfl rfl)
theorem dX8_guest_58 : decode cX8_guest 58 = .ok (.goto 20, 3) := dk_167 0 20 (dk_at dksX8_guest_2 12 rfl rfl)
theorem dX8_guest_61 : decode cX8_guest 61 = .ok (.aload_n 0, 1) := dk_42 (dk_at dksX8_guest_2 15 rfl rfl)
theorem dX8_guest_62 : decode cX8_guest 62 = .ok (.iload_n 3, 1) := dk_29 (dk_at dksX8_guest_2 16 rfl rfl)
theorem dX8_guest_63 : decode cX8_guest 63 = .ok (.iload_n 2, 1) := dk_28 (dk_at dksX8_guest_2 17 rfl rfl)
theorem dX8_guest_64 : decode cX8_guest 64 = .ok (.iconst 5, 1) := dk_8 (dk_at dksX8_guest_2 18 rfl rfl)
theorem dX8_guest_65 : decode cX8_guest 65 = .ok (.if_icmp .ge 7, 3) := dk_162 0 7 (dk_at dksX8_guest_2 19 rfl rfl)
theorem dX8_guest_68 : decode cX8_guest 68 = .ok (.iload_n 2, 1) := dk_28 (dk_at dksX8_guest_2 22 rfl rfl)
theorem dX8_guest_69 : decode cX8_guest 69 = .ok (.goto 6, 3) := dk_167 0 6 (dk_at dksX8_guest_3 0 rfl rfl)
theorem dX8_guest_72 : decode cX8_guest 72 = .ok (.iload_n 2, 1) := dk_28 (dk_at dksX8_guest_3 3 rfl rfl)
theorem dX8_guest_73 : decode cX8_guest 73 = .ok (.iconst 1, 1) := dk_4 (dk_at dksX8_guest_3 4 rfl rfl)
theorem dX8_guest_74 : decode cX8_guest 74 = .ok (.isub, 1) := dk_100 (dk_at dksX8_guest_3 5 rfl rfl)
theorem dX8_guest_75 : decode cX8_guest 75 = .ok (.invokevirtual 384, 3) := dk_182 1 128 (dk_at dksX8_guest_3 6 rfl rfl)
theorem dX8_guest_78 : decode cX8_guest 78 = .ok (.ireturn, 1) := dk_172 (dk_at dksX8_guest_3 9 rfl rfl)
abbrev cX8_isHalted : ByteArray := prog_19_method_80_code
def yX8_isHalted : MethodName := ⟨RX8, "isHalted", "(I)Z"⟩
def dkwX8_isHalted_0 : List UInt8 := [42, 27, 3, 182, 1, 128, 42, 180, 0, 13, 6, 46, 161, 0, 7, 4, 167, 0, 4, 3, 172]
abbrev dktX8_isHalted_0 : List UInt8 := dkwX8_isHalted_0 ++ []
theorem dksX8_isHalted_0 : cX8_isHalted.data.toList.drop 0 = dktX8_isHalted_0 := by decide +kernel
theorem dX8_isHalted_0 : decode cX8_isHalted 0 = .ok (.aload_n 0, 1) := dk_42 (dk_at dksX8_isHalted_0 0 rfl rfl)
theorem dX8_isHalted_1 : decode cX8_isHalted 1 = .ok (.iload_n 1, 1) := dk_27 (dk_at dksX8_isHalted_0 1 rfl rfl)
theorem dX8_isHalted_2 : decode cX8_isHalted 2 = .ok (.iconst 0, 1) := dk_3 (dk_at dksX8_isHalted_0 2 rfl rfl)
theorem dX8_isHalted_3 : decode cX8_isHalted 3 = .ok (.invokevirtual 384, 3) := dk_182 1 128 (dk_at dksX8_isHalted_0 3 rfl rfl)
theorem dX8_isHalted_6 : decode cX8_isHalted 6 = .ok (.aload_n 0, 1) := dk_42 (dk_at dksX8_isHalted_0 6 rfl rfl)
theorem dX8_isHalted_7 : decode cX8_isHalted 7 = .ok (.getfield 13, 3) := dk_180 0 13 (dk_at dksX8_isHalted_0 7 rfl rfl)
theorem dX8_isHalted_10 : decode cX8_isHalted 10 = .ok (.iconst 3, 1) := dk_6 (dk_at dksX8_isHalted_0 10 rfl rfl)
theorem dX8_isHalted_11 : decode cX8_isHalted 11 = .ok (.iaload, 1) := dk_46 (dk_at dksX8_isHalted_0 11 rfl rfl)
theorem dX8_isHalted_12 : decode cX8_isHalted 12 = .ok (.if_icmp .lt 7, 3) := dk_161 0 7 (dk_at dksX8_isHalted_0 12 rfl rfl)
theorem dX8_isHalted_15 : decode cX8_isHalted 15 = .ok (.iconst 1, 1) := dk_4 (dk_at dksX8_isHalted_0 15 rfl rfl)
theorem dX8_isHalted_16 : decode cX8_isHalted 16 = .ok (.goto 4, 3) := dk_167 0 4 (dk_at dksX8_isHalted_0 16 rfl rfl)
theorem dX8_isHalted_19 : decode cX8_isHalted 19 = .ok (.iconst 0, 1) := dk_3 (dk_at dksX8_isHalted_0 19 rfl rfl)
theorem dX8_isHalted_20 : decode cX8_isHalted 20 = .ok (.ireturn, 1) := dk_172 (dk_at dksX8_isHalted_0 20 rfl rfl)
abbrev cX8_ofGuest : ByteArray := prog_19_method_18_code
def yX8_ofGuest : MethodName := ⟨RX8, "ofGuest", "(II)I"⟩
def dkwX8_ofGuest_0 : List UInt8 := [42, 180, 0, 13, 27, 28, 184, 0, 81, 46, 172]
abbrev dktX8_ofGuest_0 : List UInt8 := dkwX8_ofGuest_0 ++ []
theorem dksX8_ofGuest_0 : cX8_ofGuest.data.toList.drop 0 = dktX8_ofGuest_0 := by decide +kernel
theorem dX8_ofGuest_0 : decode cX8_ofGuest 0 = .ok (.aload_n 0, 1) := dk_42 (dk_at dksX8_ofGuest_0 0 rfl rfl)
theorem dX8_ofGuest_1 : decode cX8_ofGuest 1 = .ok (.getfield 13, 3) := dk_180 0 13 (dk_at dksX8_ofGuest_0 1 rfl rfl)
theorem dX8_ofGuest_4 : decode cX8_ofGuest 4 = .ok (.iload_n 1, 1) := dk_27 (dk_at dksX8_ofGuest_0 4 rfl rfl)
theorem dX8_ofGuest_5 : decode cX8_ofGuest 5 = .ok (.iload_n 2, 1) := dk_28 (dk_at dksX8_ofGuest_0 5 rfl rfl)
theorem dX8_ofGuest_6 : decode cX8_ofGuest 6 = .ok (.invokestatic 81, 3) := dk_184 0 81 (dk_at dksX8_ofGuest_0 6 rfl rfl)
theorem dX8_ofGuest_9 : decode cX8_ofGuest 9 = .ok (.iaload, 1) := dk_46 (dk_at dksX8_ofGuest_0 9 rfl rfl)
theorem dX8_ofGuest_10 : decode cX8_ofGuest 10 = .ok (.ireturn, 1) := dk_172 (dk_at dksX8_ofGuest_0 10 rfl rfl)
abbrev cX8_ticks : ByteArray := prog_19_method_98_code
def yX8_ticks : MethodName := ⟨RX8, "ticks", "(I)I"⟩
def dkwX8_ticks_1 : List UInt8 := [182, 1, 24, 153, 0, 5, 3, 172, 42, 182, 1, 183, 42, 27, 3, 182, 1, 186, 172]
abbrev dktX8_ticks_1 : List UInt8 := dkwX8_ticks_1 ++ []
def dkwX8_ticks_0 : List UInt8 := [42, 3, 181, 0, 3, 42, 27, 4, 16, 60, 184, 0, 88, 154, 0, 7, 4, 167, 0, 4, 3, 4]
abbrev dktX8_ticks_0 : List UInt8 := dkwX8_ticks_0 ++ dktX8_ticks_1
theorem dksX8_ticks_0 : cX8_ticks.data.toList.drop 0 = dktX8_ticks_0 := by decide +kernel
theorem dksX8_ticks_1 : cX8_ticks.data.toList.drop 22 = dktX8_ticks_1 := dk_seg dksX8_ticks_0 22 rfl rfl
theorem dX8_ticks_0 : decode cX8_ticks 0 = .ok (.aload_n 0, 1) := dk_42 (dk_at dksX8_ticks_0 0 rfl rfl)
theorem dX8_ticks_1 : decode cX8_ticks 1 = .ok (.iconst 0, 1) := dk_3 (dk_at dksX8_ticks_0 1 rfl rfl)
theorem dX8_ticks_2 : decode cX8_ticks 2 = .ok (.putfield 3, 3) := dk_181 0 3 (dk_at dksX8_ticks_0 2 rfl rfl)
theorem dX8_ticks_5 : decode cX8_ticks 5 = .ok (.aload_n 0, 1) := dk_42 (dk_at dksX8_ticks_0 5 rfl rfl)
theorem dX8_ticks_6 : decode cX8_ticks 6 = .ok (.iload_n 1, 1) := dk_27 (dk_at dksX8_ticks_0 6 rfl rfl)
theorem dX8_ticks_7 : decode cX8_ticks 7 = .ok (.iconst 1, 1) := dk_4 (dk_at dksX8_ticks_0 7 rfl rfl)
theorem dX8_ticks_8 : decode cX8_ticks 8 = .ok (.bipush 60, 2) := dk_16 60 (dk_at dksX8_ticks_0 8 rfl rfl)
theorem dX8_ticks_10 : decode cX8_ticks 10 = .ok (.invokestatic 88, 3) := dk_184 0 88 (dk_at dksX8_ticks_0 10 rfl rfl)
theorem dX8_ticks_13 : decode cX8_ticks 13 = .ok (.ifCond .ne 7, 3) := dk_154 0 7 (dk_at dksX8_ticks_0 13 rfl rfl)
theorem dX8_ticks_16 : decode cX8_ticks 16 = .ok (.iconst 1, 1) := dk_4 (dk_at dksX8_ticks_0 16 rfl rfl)
theorem dX8_ticks_17 : decode cX8_ticks 17 = .ok (.goto 4, 3) := dk_167 0 4 (dk_at dksX8_ticks_0 17 rfl rfl)
theorem dX8_ticks_20 : decode cX8_ticks 20 = .ok (.iconst 0, 1) := dk_3 (dk_at dksX8_ticks_0 20 rfl rfl)
theorem dX8_ticks_21 : decode cX8_ticks 21 = .ok (.iconst 1, 1) := dk_4 (dk_at dksX8_ticks_0 21 rfl rfl)
theorem dX8_ticks_22 : decode cX8_ticks 22 = .ok (.invokevirtual 280, 3) := dk_182 1 24 (dk_at dksX8_ticks_1 0 rfl rfl)
theorem dX8_ticks_25 : decode cX8_ticks 25 = .ok (.ifCond .eq 5, 3) := dk_153 0 5 (dk_at dksX8_ticks_1 3 rfl rfl)
theorem dX8_ticks_28 : decode cX8_ticks 28 = .ok (.iconst 0, 1) := dk_3 (dk_at dksX8_ticks_1 6 rfl rfl)
theorem dX8_ticks_29 : decode cX8_ticks 29 = .ok (.ireturn, 1) := dk_172 (dk_at dksX8_ticks_1 7 rfl rfl)
theorem dX8_ticks_30 : decode cX8_ticks 30 = .ok (.aload_n 0, 1) := dk_42 (dk_at dksX8_ticks_1 8 rfl rfl)
theorem dX8_ticks_31 : decode cX8_ticks 31 = .ok (.invokevirtual 439, 3) := dk_182 1 183 (dk_at dksX8_ticks_1 9 rfl rfl)
theorem dX8_ticks_34 : decode cX8_ticks 34 = .ok (.aload_n 0, 1) := dk_42 (dk_at dksX8_ticks_1 12 rfl rfl)
theorem dX8_ticks_35 : decode cX8_ticks 35 = .ok (.iload_n 1, 1) := dk_27 (dk_at dksX8_ticks_1 13 rfl rfl)
theorem dX8_ticks_36 : decode cX8_ticks 36 = .ok (.iconst 0, 1) := dk_3 (dk_at dksX8_ticks_1 14 rfl rfl)
theorem dX8_ticks_37 : decode cX8_ticks 37 = .ok (.invokevirtual 442, 3) := dk_182 1 186 (dk_at dksX8_ticks_1 15 rfl rfl)
theorem dX8_ticks_40 : decode cX8_ticks 40 = .ok (.ireturn, 1) := dk_172 (dk_at dksX8_ticks_1 18 rfl rfl)
abbrev cX8_remembers : ByteArray := prog_19_method_8_code
def yX8_remembers : MethodName := ⟨RX8, "remembers", "()V"⟩
def dkwX8_remembers_3 : List UInt8 := [180, 0, 71, 4, 100, 104, 27, 96, 42, 180, 0, 13, 27, 46, 79, 132, 1, 1, 167, 255, 223, 177]
abbrev dktX8_remembers_3 : List UInt8 := dkwX8_remembers_3 ++ []
def dkwX8_remembers_2 : List UInt8 := [4, 96, 181, 0, 71, 3, 60, 27, 17, 1, 112, 162, 0, 32, 42, 180, 0, 26, 17, 1, 112, 42]
abbrev dktX8_remembers_2 : List UInt8 := dkwX8_remembers_2 ++ dktX8_remembers_3
def dkwX8_remembers_1 : List UInt8 := [180, 0, 26, 27, 17, 1, 112, 96, 46, 79, 132, 1, 1, 167, 255, 230, 167, 0, 13, 42, 89, 180, 0, 71]
abbrev dktX8_remembers_1 : List UInt8 := dkwX8_remembers_1 ++ dktX8_remembers_2
def dkwX8_remembers_0 : List UInt8 := [42, 180, 0, 71, 16, 12, 160, 0, 37, 3, 60, 27, 17, 15, 208, 162, 0, 25, 42, 180, 0, 26, 27, 42]
abbrev dktX8_remembers_0 : List UInt8 := dkwX8_remembers_0 ++ dktX8_remembers_1
theorem dksX8_remembers_0 : cX8_remembers.data.toList.drop 0 = dktX8_remembers_0 := by decide +kernel
theorem dksX8_remembers_1 : cX8_remembers.data.toList.drop 24 = dktX8_remembers_1 := dk_seg dksX8_remembers_0 24 rfl rfl
theorem dksX8_remembers_2 : cX8_remembers.data.toList.drop 48 = dktX8_remembers_2 := dk_seg dksX8_remembers_1 24 rfl rfl
theorem dksX8_remembers_3 : cX8_remembers.data.toList.drop 70 = dktX8_remembers_3 := dk_seg dksX8_remembers_2 22 rfl rfl
theorem dX8_remembers_0 : decode cX8_remembers 0 = .ok (.aload_n 0, 1) := dk_42 (dk_at dksX8_remembers_0 0 rfl rfl)
theorem dX8_remembers_1 : decode cX8_remembers 1 = .ok (.getfield 71, 3) := dk_180 0 71 (dk_at dksX8_remembers_0 1 rfl rfl)
theorem dX8_remembers_4 : decode cX8_remembers 4 = .ok (.bipush 12, 2) := dk_16 12 (dk_at dksX8_remembers_0 4 rfl rfl)
theorem dX8_remembers_6 : decode cX8_remembers 6 = .ok (.if_icmp .ne 37, 3) := dk_160 0 37 (dk_at dksX8_remembers_0 6 rfl rfl)
theorem dX8_remembers_9 : decode cX8_remembers 9 = .ok (.iconst 0, 1) := dk_3 (dk_at dksX8_remembers_0 9 rfl rfl)
theorem dX8_remembers_10 : decode cX8_remembers 10 = .ok (.istore_n 1, 1) := dk_60 (dk_at dksX8_remembers_0 10 rfl rfl)
theorem dX8_remembers_11 : decode cX8_remembers 11 = .ok (.iload_n 1, 1) := dk_27 (dk_at dksX8_remembers_0 11 rfl rfl)
theorem dX8_remembers_12 : decode cX8_remembers 12 = .ok (.sipush 4048, 3) := dk_17 15 208 (dk_at dksX8_remembers_0 12 rfl rfl)
theorem dX8_remembers_15 : decode cX8_remembers 15 = .ok (.if_icmp .ge 25, 3) := dk_162 0 25 (dk_at dksX8_remembers_0 15 rfl rfl)
theorem dX8_remembers_18 : decode cX8_remembers 18 = .ok (.aload_n 0, 1) := dk_42 (dk_at dksX8_remembers_0 18 rfl rfl)
theorem dX8_remembers_19 : decode cX8_remembers 19 = .ok (.getfield 26, 3) := dk_180 0 26 (dk_at dksX8_remembers_0 19 rfl rfl)
theorem dX8_remembers_22 : decode cX8_remembers 22 = .ok (.iload_n 1, 1) := dk_27 (dk_at dksX8_remembers_0 22 rfl rfl)
theorem dX8_remembers_23 : decode cX8_remembers 23 = .ok (.aload_n 0, 1) := dk_42 (dk_at dksX8_remembers_0 23 rfl rfl)
theorem dX8_remembers_24 : decode cX8_remembers 24 = .ok (.getfield 26, 3) := dk_180 0 26 (dk_at dksX8_remembers_1 0 rfl rfl)
theorem dX8_remembers_27 : decode cX8_remembers 27 = .ok (.iload_n 1, 1) := dk_27 (dk_at dksX8_remembers_1 3 rfl rfl)
theorem dX8_remembers_28 : decode cX8_remembers 28 = .ok (.sipush 368, 3) := dk_17 1 112 (dk_at dksX8_remembers_1 4 rfl rfl)
theorem dX8_remembers_31 : decode cX8_remembers 31 = .ok (.iadd, 1) := dk_96 (dk_at dksX8_remembers_1 7 rfl rfl)
theorem dX8_remembers_32 : decode cX8_remembers 32 = .ok (.iaload, 1) := dk_46 (dk_at dksX8_remembers_1 8 rfl rfl)
theorem dX8_remembers_33 : decode cX8_remembers 33 = .ok (.iastore, 1) := dk_79 (dk_at dksX8_remembers_1 9 rfl rfl)
theorem dX8_remembers_34 : decode cX8_remembers 34 = .ok (.iinc 1 1, 3) := dk_132 1 1 (dk_at dksX8_remembers_1 10 rfl rfl)
theorem dX8_remembers_37 : decode cX8_remembers 37 = .ok (.goto (-26), 3) := dk_167 255 230 (dk_at dksX8_remembers_1 13 rfl rfl)
theorem dX8_remembers_40 : decode cX8_remembers 40 = .ok (.goto 13, 3) := dk_167 0 13 (dk_at dksX8_remembers_1 16 rfl rfl)
theorem dX8_remembers_43 : decode cX8_remembers 43 = .ok (.aload_n 0, 1) := dk_42 (dk_at dksX8_remembers_1 19 rfl rfl)
theorem dX8_remembers_44 : decode cX8_remembers 44 = .ok (.dup, 1) := dk_89 (dk_at dksX8_remembers_1 20 rfl rfl)
theorem dX8_remembers_45 : decode cX8_remembers 45 = .ok (.getfield 71, 3) := dk_180 0 71 (dk_at dksX8_remembers_1 21 rfl rfl)
theorem dX8_remembers_48 : decode cX8_remembers 48 = .ok (.iconst 1, 1) := dk_4 (dk_at dksX8_remembers_2 0 rfl rfl)
theorem dX8_remembers_49 : decode cX8_remembers 49 = .ok (.iadd, 1) := dk_96 (dk_at dksX8_remembers_2 1 rfl rfl)
theorem dX8_remembers_50 : decode cX8_remembers 50 = .ok (.putfield 71, 3) := dk_181 0 71 (dk_at dksX8_remembers_2 2 rfl rfl)
theorem dX8_remembers_53 : decode cX8_remembers 53 = .ok (.iconst 0, 1) := dk_3 (dk_at dksX8_remembers_2 5 rfl rfl)
theorem dX8_remembers_54 : decode cX8_remembers 54 = .ok (.istore_n 1, 1) := dk_60 (dk_at dksX8_remembers_2 6 rfl rfl)
theorem dX8_remembers_55 : decode cX8_remembers 55 = .ok (.iload_n 1, 1) := dk_27 (dk_at dksX8_remembers_2 7 rfl rfl)
theorem dX8_remembers_56 : decode cX8_remembers 56 = .ok (.sipush 368, 3) := dk_17 1 112 (dk_at dksX8_remembers_2 8 rfl rfl)
theorem dX8_remembers_59 : decode cX8_remembers 59 = .ok (.if_icmp .ge 32, 3) := dk_162 0 32 (dk_at dksX8_remembers_2 11 rfl rfl)
theorem dX8_remembers_62 : decode cX8_remembers 62 = .ok (.aload_n 0, 1) := dk_42 (dk_at dksX8_remembers_2 14 rfl rfl)
theorem dX8_remembers_63 : decode cX8_remembers 63 = .ok (.getfield 26, 3) := dk_180 0 26 (dk_at dksX8_remembers_2 15 rfl rfl)
theorem dX8_remembers_66 : decode cX8_remembers 66 = .ok (.sipush 368, 3) := dk_17 1 112 (dk_at dksX8_remembers_2 18 rfl rfl)
theorem dX8_remembers_69 : decode cX8_remembers 69 = .ok (.aload_n 0, 1) := dk_42 (dk_at dksX8_remembers_2 21 rfl rfl)
theorem dX8_remembers_70 : decode cX8_remembers 70 = .ok (.getfield 71, 3) := dk_180 0 71 (dk_at dksX8_remembers_3 0 rfl rfl)
theorem dX8_remembers_73 : decode cX8_remembers 73 = .ok (.iconst 1, 1) := dk_4 (dk_at dksX8_remembers_3 3 rfl rfl)
theorem dX8_remembers_74 : decode cX8_remembers 74 = .ok (.isub, 1) := dk_100 (dk_at dksX8_remembers_3 4 rfl rfl)
theorem dX8_remembers_75 : decode cX8_remembers 75 = .ok (.imul, 1) := dk_104 (dk_at dksX8_remembers_3 5 rfl rfl)
theorem dX8_remembers_76 : decode cX8_remembers 76 = .ok (.iload_n 1, 1) := dk_27 (dk_at dksX8_remembers_3 6 rfl rfl)
theorem dX8_remembers_77 : decode cX8_remembers 77 = .ok (.iadd, 1) := dk_96 (dk_at dksX8_remembers_3 7 rfl rfl)
theorem dX8_remembers_78 : decode cX8_remembers 78 = .ok (.aload_n 0, 1) := dk_42 (dk_at dksX8_remembers_3 8 rfl rfl)
theorem dX8_remembers_79 : decode cX8_remembers 79 = .ok (.getfield 13, 3) := dk_180 0 13 (dk_at dksX8_remembers_3 9 rfl rfl)
theorem dX8_remembers_82 : decode cX8_remembers 82 = .ok (.iload_n 1, 1) := dk_27 (dk_at dksX8_remembers_3 12 rfl rfl)
theorem dX8_remembers_83 : decode cX8_remembers 83 = .ok (.iaload, 1) := dk_46 (dk_at dksX8_remembers_3 13 rfl rfl)
theorem dX8_remembers_84 : decode cX8_remembers 84 = .ok (.iastore, 1) := dk_79 (dk_at dksX8_remembers_3 14 rfl rfl)
theorem dX8_remembers_85 : decode cX8_remembers 85 = .ok (.iinc 1 1, 3) := dk_132 1 1 (dk_at dksX8_remembers_3 15 rfl rfl)
theorem dX8_remembers_88 : decode cX8_remembers 88 = .ok (.goto (-33), 3) := dk_167 255 223 (dk_at dksX8_remembers_3 18 rfl rfl)
theorem dX8_remembers_91 : decode cX8_remembers 91 = .ok (.return_, 1) := dk_177 (dk_at dksX8_remembers_3 21 rfl rfl)
abbrev cX8_goesOn : ByteArray := prog_19_method_89_code
def yX8_goesOn : MethodName := ⟨RX8, "goesOn", "(IZ)I"⟩
def dkwX8_goesOn_2 : List UInt8 := [4, 167, 0, 4, 3, 96, 62, 132, 4, 1, 167, 255, 207, 29, 172]
abbrev dktX8_goesOn_2 : List UInt8 := dkwX8_goesOn_2 ++ []
def dkwX8_goesOn_1 : List UInt8 := [182, 1, 170, 42, 180, 0, 13, 16, 7, 46, 162, 0, 7, 4, 167, 0, 4, 3, 182, 1, 173, 153, 0, 7]
abbrev dktX8_goesOn_1 : List UInt8 := dkwX8_goesOn_1 ++ dktX8_goesOn_2
def dkwX8_goesOn_0 : List UInt8 := [42, 182, 1, 167, 3, 62, 3, 54, 4, 21, 4, 27, 162, 0, 49, 29, 42, 28, 154, 0, 23, 42, 16, 100]
abbrev dktX8_goesOn_0 : List UInt8 := dkwX8_goesOn_0 ++ dktX8_goesOn_1
theorem dksX8_goesOn_0 : cX8_goesOn.data.toList.drop 0 = dktX8_goesOn_0 := by decide +kernel
theorem dksX8_goesOn_1 : cX8_goesOn.data.toList.drop 24 = dktX8_goesOn_1 := dk_seg dksX8_goesOn_0 24 rfl rfl
theorem dksX8_goesOn_2 : cX8_goesOn.data.toList.drop 48 = dktX8_goesOn_2 := dk_seg dksX8_goesOn_1 24 rfl rfl
theorem dX8_goesOn_0 : decode cX8_goesOn 0 = .ok (.aload_n 0, 1) := dk_42 (dk_at dksX8_goesOn_0 0 rfl rfl)
theorem dX8_goesOn_1 : decode cX8_goesOn 1 = .ok (.invokevirtual 423, 3) := dk_182 1 167 (dk_at dksX8_goesOn_0 1 rfl rfl)
theorem dX8_goesOn_4 : decode cX8_goesOn 4 = .ok (.iconst 0, 1) := dk_3 (dk_at dksX8_goesOn_0 4 rfl rfl)
theorem dX8_goesOn_5 : decode cX8_goesOn 5 = .ok (.istore_n 3, 1) := dk_62 (dk_at dksX8_goesOn_0 5 rfl rfl)
theorem dX8_goesOn_6 : decode cX8_goesOn 6 = .ok (.iconst 0, 1) := dk_3 (dk_at dksX8_goesOn_0 6 rfl rfl)
theorem dX8_goesOn_7 : decode cX8_goesOn 7 = .ok (.istore 4, 2) := dk_54 4 (dk_at dksX8_goesOn_0 7 rfl rfl)
theorem dX8_goesOn_9 : decode cX8_goesOn 9 = .ok (.iload 4, 2) := dk_21 4 (dk_at dksX8_goesOn_0 9 rfl rfl)
theorem dX8_goesOn_11 : decode cX8_goesOn 11 = .ok (.iload_n 1, 1) := dk_27 (dk_at dksX8_goesOn_0 11 rfl rfl)
theorem dX8_goesOn_12 : decode cX8_goesOn 12 = .ok (.if_icmp .ge 49, 3) := dk_162 0 49 (dk_at dksX8_goesOn_0 12 rfl rfl)
theorem dX8_goesOn_15 : decode cX8_goesOn 15 = .ok (.iload_n 3, 1) := dk_29 (dk_at dksX8_goesOn_0 15 rfl rfl)
theorem dX8_goesOn_16 : decode cX8_goesOn 16 = .ok (.aload_n 0, 1) := dk_42 (dk_at dksX8_goesOn_0 16 rfl rfl)
theorem dX8_goesOn_17 : decode cX8_goesOn 17 = .ok (.iload_n 2, 1) := dk_28 (dk_at dksX8_goesOn_0 17 rfl rfl)
theorem dX8_goesOn_18 : decode cX8_goesOn 18 = .ok (.ifCond .ne 23, 3) := dk_154 0 23 (dk_at dksX8_goesOn_0 18 rfl rfl)
theorem dX8_goesOn_21 : decode cX8_goesOn 21 = .ok (.aload_n 0, 1) := dk_42 (dk_at dksX8_goesOn_0 21 rfl rfl)
theorem dX8_goesOn_22 : decode cX8_goesOn 22 = .ok (.bipush 100, 2) := dk_16 100 (dk_at dksX8_goesOn_0 22 rfl rfl)
theorem dX8_goesOn_24 : decode cX8_goesOn 24 = .ok (.invokevirtual 426, 3) := dk_182 1 170 (dk_at dksX8_goesOn_1 0 rfl rfl)
theorem dX8_goesOn_27 : decode cX8_goesOn 27 = .ok (.aload_n 0, 1) := dk_42 (dk_at dksX8_goesOn_1 3 rfl rfl)
theorem dX8_goesOn_28 : decode cX8_goesOn 28 = .ok (.getfield 13, 3) := dk_180 0 13 (dk_at dksX8_goesOn_1 4 rfl rfl)
theorem dX8_goesOn_31 : decode cX8_goesOn 31 = .ok (.bipush 7, 2) := dk_16 7 (dk_at dksX8_goesOn_1 7 rfl rfl)
theorem dX8_goesOn_33 : decode cX8_goesOn 33 = .ok (.iaload, 1) := dk_46 (dk_at dksX8_goesOn_1 9 rfl rfl)
theorem dX8_goesOn_34 : decode cX8_goesOn 34 = .ok (.if_icmp .ge 7, 3) := dk_162 0 7 (dk_at dksX8_goesOn_1 10 rfl rfl)
theorem dX8_goesOn_37 : decode cX8_goesOn 37 = .ok (.iconst 1, 1) := dk_4 (dk_at dksX8_goesOn_1 13 rfl rfl)
theorem dX8_goesOn_38 : decode cX8_goesOn 38 = .ok (.goto 4, 3) := dk_167 0 4 (dk_at dksX8_goesOn_1 14 rfl rfl)
theorem dX8_goesOn_41 : decode cX8_goesOn 41 = .ok (.iconst 0, 1) := dk_3 (dk_at dksX8_goesOn_1 17 rfl rfl)
theorem dX8_goesOn_42 : decode cX8_goesOn 42 = .ok (.invokevirtual 429, 3) := dk_182 1 173 (dk_at dksX8_goesOn_1 18 rfl rfl)
theorem dX8_goesOn_45 : decode cX8_goesOn 45 = .ok (.ifCond .eq 7, 3) := dk_153 0 7 (dk_at dksX8_goesOn_1 21 rfl rfl)
theorem dX8_goesOn_48 : decode cX8_goesOn 48 = .ok (.iconst 1, 1) := dk_4 (dk_at dksX8_goesOn_2 0 rfl rfl)
theorem dX8_goesOn_49 : decode cX8_goesOn 49 = .ok (.goto 4, 3) := dk_167 0 4 (dk_at dksX8_goesOn_2 1 rfl rfl)
theorem dX8_goesOn_52 : decode cX8_goesOn 52 = .ok (.iconst 0, 1) := dk_3 (dk_at dksX8_goesOn_2 4 rfl rfl)
theorem dX8_goesOn_53 : decode cX8_goesOn 53 = .ok (.iadd, 1) := dk_96 (dk_at dksX8_goesOn_2 5 rfl rfl)
theorem dX8_goesOn_54 : decode cX8_goesOn 54 = .ok (.istore_n 3, 1) := dk_62 (dk_at dksX8_goesOn_2 6 rfl rfl)
theorem dX8_goesOn_55 : decode cX8_goesOn 55 = .ok (.iinc 4 1, 3) := dk_132 4 1 (dk_at dksX8_goesOn_2 7 rfl rfl)
theorem dX8_goesOn_58 : decode cX8_goesOn 58 = .ok (.goto (-49), 3) := dk_167 255 207 (dk_at dksX8_goesOn_2 10 rfl rfl)
theorem dX8_goesOn_61 : decode cX8_goesOn 61 = .ok (.iload_n 3, 1) := dk_29 (dk_at dksX8_goesOn_2 13 rfl rfl)
theorem dX8_goesOn_62 : decode cX8_goesOn 62 = .ok (.ireturn, 1) := dk_172 (dk_at dksX8_goesOn_2 14 rfl rfl)
abbrev cX8_drawn : ByteArray := prog_19_method_20_code
def yX8_drawn : MethodName := ⟨RX8, "drawn", "(I)I"⟩
def dkwX8_drawn_1 : List UInt8 := [180, 0, 13, 16, 11, 46, 16, 16, 122, 17, 127, 255, 126, 27, 112, 172]
abbrev dktX8_drawn_1 : List UInt8 := dkwX8_drawn_1 ++ []
def dkwX8_drawn_0 : List UInt8 := [42, 180, 0, 13, 16, 11, 18, 92, 42, 180, 0, 13, 16, 11, 46, 104, 17, 48, 57, 96, 79, 42]
abbrev dktX8_drawn_0 : List UInt8 := dkwX8_drawn_0 ++ dktX8_drawn_1
theorem dksX8_drawn_0 : cX8_drawn.data.toList.drop 0 = dktX8_drawn_0 := by decide +kernel
theorem dksX8_drawn_1 : cX8_drawn.data.toList.drop 22 = dktX8_drawn_1 := dk_seg dksX8_drawn_0 22 rfl rfl
theorem dX8_drawn_0 : decode cX8_drawn 0 = .ok (.aload_n 0, 1) := dk_42 (dk_at dksX8_drawn_0 0 rfl rfl)
theorem dX8_drawn_1 : decode cX8_drawn 1 = .ok (.getfield 13, 3) := dk_180 0 13 (dk_at dksX8_drawn_0 1 rfl rfl)
theorem dX8_drawn_4 : decode cX8_drawn 4 = .ok (.bipush 11, 2) := dk_16 11 (dk_at dksX8_drawn_0 4 rfl rfl)
theorem dX8_drawn_6 : decode cX8_drawn 6 = .ok (.ldc 92, 2) := dk_18 92 (dk_at dksX8_drawn_0 6 rfl rfl)
theorem dX8_drawn_8 : decode cX8_drawn 8 = .ok (.aload_n 0, 1) := dk_42 (dk_at dksX8_drawn_0 8 rfl rfl)
theorem dX8_drawn_9 : decode cX8_drawn 9 = .ok (.getfield 13, 3) := dk_180 0 13 (dk_at dksX8_drawn_0 9 rfl rfl)
theorem dX8_drawn_12 : decode cX8_drawn 12 = .ok (.bipush 11, 2) := dk_16 11 (dk_at dksX8_drawn_0 12 rfl rfl)
theorem dX8_drawn_14 : decode cX8_drawn 14 = .ok (.iaload, 1) := dk_46 (dk_at dksX8_drawn_0 14 rfl rfl)
theorem dX8_drawn_15 : decode cX8_drawn 15 = .ok (.imul, 1) := dk_104 (dk_at dksX8_drawn_0 15 rfl rfl)
theorem dX8_drawn_16 : decode cX8_drawn 16 = .ok (.sipush 12345, 3) := dk_17 48 57 (dk_at dksX8_drawn_0 16 rfl rfl)
theorem dX8_drawn_19 : decode cX8_drawn 19 = .ok (.iadd, 1) := dk_96 (dk_at dksX8_drawn_0 19 rfl rfl)
theorem dX8_drawn_20 : decode cX8_drawn 20 = .ok (.iastore, 1) := dk_79 (dk_at dksX8_drawn_0 20 rfl rfl)
theorem dX8_drawn_21 : decode cX8_drawn 21 = .ok (.aload_n 0, 1) := dk_42 (dk_at dksX8_drawn_0 21 rfl rfl)
theorem dX8_drawn_22 : decode cX8_drawn 22 = .ok (.getfield 13, 3) := dk_180 0 13 (dk_at dksX8_drawn_1 0 rfl rfl)
theorem dX8_drawn_25 : decode cX8_drawn 25 = .ok (.bipush 11, 2) := dk_16 11 (dk_at dksX8_drawn_1 3 rfl rfl)
theorem dX8_drawn_27 : decode cX8_drawn 27 = .ok (.iaload, 1) := dk_46 (dk_at dksX8_drawn_1 5 rfl rfl)
theorem dX8_drawn_28 : decode cX8_drawn 28 = .ok (.bipush 16, 2) := dk_16 16 (dk_at dksX8_drawn_1 6 rfl rfl)
theorem dX8_drawn_30 : decode cX8_drawn 30 = .ok (.ishr, 1) := dk_122 (dk_at dksX8_drawn_1 8 rfl rfl)
theorem dX8_drawn_31 : decode cX8_drawn 31 = .ok (.sipush 32767, 3) := dk_17 127 255 (dk_at dksX8_drawn_1 9 rfl rfl)
theorem dX8_drawn_34 : decode cX8_drawn 34 = .ok (.iand, 1) := dk_126 (dk_at dksX8_drawn_1 12 rfl rfl)
theorem dX8_drawn_35 : decode cX8_drawn 35 = .ok (.iload_n 1, 1) := dk_27 (dk_at dksX8_drawn_1 13 rfl rfl)
theorem dX8_drawn_36 : decode cX8_drawn 36 = .ok (.irem, 1) := dk_112 (dk_at dksX8_drawn_1 14 rfl rfl)
theorem dX8_drawn_37 : decode cX8_drawn 37 = .ok (.ireturn, 1) := dk_172 (dk_at dksX8_drawn_1 15 rfl rfl)
abbrev cX8_oneTick : ByteArray := prog_19_method_88_code
def yX8_oneTick : MethodName := ⟨RX8, "oneTick", "(Z)Z"⟩
def dkwX8_oneTick_7 : List UInt8 := [4, 96, 184, 1, 131, 79, 21, 6, 172]
abbrev dktX8_oneTick_7 : List UInt8 := dkwX8_oneTick_7 ++ []
def dkwX8_oneTick_6 : List UInt8 := [182, 1, 164, 96, 184, 1, 131, 79, 42, 180, 0, 13, 16, 8, 17, 39, 15, 42, 180, 0, 13, 16, 8, 46]
abbrev dktX8_oneTick_6 : List UInt8 := dkwX8_oneTick_6 ++ dktX8_oneTick_7
def dkwX8_oneTick_5 : List UInt8 := [21, 6, 153, 0, 30, 42, 180, 0, 13, 16, 9, 17, 39, 15, 42, 180, 0, 13, 16, 9, 46, 42, 21, 4]
abbrev dktX8_oneTick_5 : List UInt8 := dkwX8_oneTick_5 ++ dktX8_oneTick_6
def dkwX8_oneTick_4 : List UInt8 := [42, 182, 1, 152, 154, 0, 11, 42, 21, 4, 6, 29, 182, 1, 155, 21, 5, 3, 4, 184, 0, 88, 54, 6]
abbrev dktX8_oneTick_4 : List UInt8 := dkwX8_oneTick_4 ++ dktX8_oneTick_5
def dkwX8_oneTick_3 : List UInt8 := [182, 1, 161, 54, 5, 21, 5, 2, 159, 0, 12, 42, 21, 4, 21, 5, 29, 182, 1, 155, 28, 153, 0, 18]
abbrev dktX8_oneTick_3 : List UInt8 := dkwX8_oneTick_3 ++ dktX8_oneTick_4
def dkwX8_oneTick_2 : List UInt8 := [7, 29, 182, 1, 155, 42, 3, 182, 1, 139, 42, 4, 182, 1, 139, 167, 0, 28, 42, 182, 1, 158, 42]
abbrev dktX8_oneTick_2 : List UInt8 := dkwX8_oneTick_2 ++ dktX8_oneTick_3
def dkwX8_oneTick_1 : List UInt8 := [2, 167, 0, 12, 42, 180, 0, 13, 16, 12, 29, 96, 46, 54, 4, 2, 54, 5, 27, 153, 0, 23, 42, 2]
abbrev dktX8_oneTick_1 : List UInt8 := dkwX8_oneTick_1 ++ dktX8_oneTick_2
def dkwX8_oneTick_0 : List UInt8 := [42, 182, 1, 152, 61, 42, 4, 3, 182, 1, 128, 62, 42, 4, 182, 1, 136, 154, 0, 7, 27, 153, 0, 7]
abbrev dktX8_oneTick_0 : List UInt8 := dkwX8_oneTick_0 ++ dktX8_oneTick_1
theorem dksX8_oneTick_0 : cX8_oneTick.data.toList.drop 0 = dktX8_oneTick_0 := by decide +kernel
theorem dksX8_oneTick_1 : cX8_oneTick.data.toList.drop 24 = dktX8_oneTick_1 := dk_seg dksX8_oneTick_0 24 rfl rfl
theorem dksX8_oneTick_2 : cX8_oneTick.data.toList.drop 48 = dktX8_oneTick_2 := dk_seg dksX8_oneTick_1 24 rfl rfl
theorem dksX8_oneTick_3 : cX8_oneTick.data.toList.drop 71 = dktX8_oneTick_3 := dk_seg dksX8_oneTick_2 23 rfl rfl
theorem dksX8_oneTick_4 : cX8_oneTick.data.toList.drop 95 = dktX8_oneTick_4 := dk_seg dksX8_oneTick_3 24 rfl rfl
theorem dksX8_oneTick_5 : cX8_oneTick.data.toList.drop 119 = dktX8_oneTick_5 := dk_seg dksX8_oneTick_4 24 rfl rfl
theorem dksX8_oneTick_6 : cX8_oneTick.data.toList.drop 143 = dktX8_oneTick_6 := dk_seg dksX8_oneTick_5 24 rfl rfl
theorem dksX8_oneTick_7 : cX8_oneTick.data.toList.drop 167 = dktX8_oneTick_7 := dk_seg dksX8_oneTick_6 24 rfl rfl
theorem dX8_oneTick_0 : decode cX8_oneTick 0 = .ok (.aload_n 0, 1) := dk_42 (dk_at dksX8_oneTick_0 0 rfl rfl)
theorem dX8_oneTick_1 : decode cX8_oneTick 1 = .ok (.invokevirtual 408, 3) := dk_182 1 152 (dk_at dksX8_oneTick_0 1 rfl rfl)
theorem dX8_oneTick_4 : decode cX8_oneTick 4 = .ok (.istore_n 2, 1) := dk_61 (dk_at dksX8_oneTick_0 4 rfl rfl)
theorem dX8_oneTick_5 : decode cX8_oneTick 5 = .ok (.aload_n 0, 1) := dk_42 (dk_at dksX8_oneTick_0 5 rfl rfl)
theorem dX8_oneTick_6 : decode cX8_oneTick 6 = .ok (.iconst 1, 1) := dk_4 (dk_at dksX8_oneTick_0 6 rfl rfl)
theorem dX8_oneTick_7 : decode cX8_oneTick 7 = .ok (.iconst 0, 1) := dk_3 (dk_at dksX8_oneTick_0 7 rfl rfl)
theorem dX8_oneTick_8 : decode cX8_oneTick 8 = .ok (.invokevirtual 384, 3) := dk_182 1 128 (dk_at dksX8_oneTick_0 8 rfl rfl)
theorem dX8_oneTick_11 : decode cX8_oneTick 11 = .ok (.istore_n 3, 1) := dk_62 (dk_at dksX8_oneTick_0 11 rfl rfl)
theorem dX8_oneTick_12 : decode cX8_oneTick 12 = .ok (.aload_n 0, 1) := dk_42 (dk_at dksX8_oneTick_0 12 rfl rfl)
theorem dX8_oneTick_13 : decode cX8_oneTick 13 = .ok (.iconst 1, 1) := dk_4 (dk_at dksX8_oneTick_0 13 rfl rfl)
theorem dX8_oneTick_14 : decode cX8_oneTick 14 = .ok (.invokevirtual 392, 3) := dk_182 1 136 (dk_at dksX8_oneTick_0 14 rfl rfl)
theorem dX8_oneTick_17 : decode cX8_oneTick 17 = .ok (.ifCond .ne 7, 3) := dk_154 0 7 (dk_at dksX8_oneTick_0 17 rfl rfl)
theorem dX8_oneTick_20 : decode cX8_oneTick 20 = .ok (.iload_n 1, 1) := dk_27 (dk_at dksX8_oneTick_0 20 rfl rfl)
theorem dX8_oneTick_21 : decode cX8_oneTick 21 = .ok (.ifCond .eq 7, 3) := dk_153 0 7 (dk_at dksX8_oneTick_0 21 rfl rfl)
theorem dX8_oneTick_24 : decode cX8_oneTick 24 = .ok (.iconst (-1), 1) := dk_2 (dk_at dksX8_oneTick_1 0 rfl rfl)
theorem dX8_oneTick_25 : decode cX8_oneTick 25 = .ok (.goto 12, 3) := dk_167 0 12 (dk_at dksX8_oneTick_1 1 rfl rfl)
theorem dX8_oneTick_28 : decode cX8_oneTick 28 = .ok (.aload_n 0, 1) := dk_42 (dk_at dksX8_oneTick_1 4 rfl rfl)
theorem dX8_oneTick_29 : decode cX8_oneTick 29 = .ok (.getfield 13, 3) := dk_180 0 13 (dk_at dksX8_oneTick_1 5 rfl rfl)
theorem dX8_oneTick_32 : decode cX8_oneTick 32 = .ok (.bipush 12, 2) := dk_16 12 (dk_at dksX8_oneTick_1 8 rfl rfl)
theorem dX8_oneTick_34 : decode cX8_oneTick 34 = .ok (.iload_n 3, 1) := dk_29 (dk_at dksX8_oneTick_1 10 rfl rfl)
theorem dX8_oneTick_35 : decode cX8_oneTick 35 = .ok (.iadd, 1) := dk_96 (dk_at dksX8_oneTick_1 11 rfl rfl)
theorem dX8_oneTick_36 : decode cX8_oneTick 36 = .ok (.iaload, 1) := dk_46 (dk_at dksX8_oneTick_1 12 rfl rfl)
theorem dX8_oneTick_37 : decode cX8_oneTick 37 = .ok (.istore 4, 2) := dk_54 4 (dk_at dksX8_oneTick_1 13 rfl rfl)
theorem dX8_oneTick_39 : decode cX8_oneTick 39 = .ok (.iconst (-1), 1) := dk_2 (dk_at dksX8_oneTick_1 15 rfl rfl)
theorem dX8_oneTick_40 : decode cX8_oneTick 40 = .ok (.istore 5, 2) := dk_54 5 (dk_at dksX8_oneTick_1 16 rfl rfl)
theorem dX8_oneTick_42 : decode cX8_oneTick 42 = .ok (.iload_n 1, 1) := dk_27 (dk_at dksX8_oneTick_1 18 rfl rfl)
theorem dX8_oneTick_43 : decode cX8_oneTick 43 = .ok (.ifCond .eq 23, 3) := dk_153 0 23 (dk_at dksX8_oneTick_1 19 rfl rfl)
theorem dX8_oneTick_46 : decode cX8_oneTick 46 = .ok (.aload_n 0, 1) := dk_42 (dk_at dksX8_oneTick_1 22 rfl rfl)
theorem dX8_oneTick_47 : decode cX8_oneTick 47 = .ok (.iconst (-1), 1) := dk_2 (dk_at dksX8_oneTick_1 23 rfl rfl)
theorem dX8_oneTick_48 : decode cX8_oneTick 48 = .ok (.iconst 4, 1) := dk_7 (dk_at dksX8_oneTick_2 0 rfl rfl)
theorem dX8_oneTick_49 : decode cX8_oneTick 49 = .ok (.iload_n 3, 1) := dk_29 (dk_at dksX8_oneTick_2 1 rfl rfl)
theorem dX8_oneTick_50 : decode cX8_oneTick 50 = .ok (.invokevirtual 411, 3) := dk_182 1 155 (dk_at dksX8_oneTick_2 2 rfl rfl)
theorem dX8_oneTick_53 : decode cX8_oneTick 53 = .ok (.aload_n 0, 1) := dk_42 (dk_at dksX8_oneTick_2 5 rfl rfl)
theorem dX8_oneTick_54 : decode cX8_oneTick 54 = .ok (.iconst 0, 1) := dk_3 (dk_at dksX8_oneTick_2 6 rfl rfl)
theorem dX8_oneTick_55 : decode cX8_oneTick 55 = .ok (.invokevirtual 395, 3) := dk_182 1 139 (dk_at dksX8_oneTick_2 7 rfl rfl)
theorem dX8_oneTick_58 : decode cX8_oneTick 58 = .ok (.aload_n 0, 1) := dk_42 (dk_at dksX8_oneTick_2 10 rfl rfl)
theorem dX8_oneTick_59 : decode cX8_oneTick 59 = .ok (.iconst 1, 1) := dk_4 (dk_at dksX8_oneTick_2 11 rfl rfl)
theorem dX8_oneTick_60 : decode cX8_oneTick 60 = .ok (.invokevirtual 395, 3) := dk_182 1 139 (dk_at dksX8_oneTick_2 12 rfl rfl)
theorem dX8_oneTick_63 : decode cX8_oneTick 63 = .ok (.goto 28, 3) := dk_167 0 28 (dk_at dksX8_oneTick_2 15 rfl rfl)
theorem dX8_oneTick_66 : decode cX8_oneTick 66 = .ok (.aload_n 0, 1) := dk_42 (dk_at dksX8_oneTick_2 18 rfl rfl)
theorem dX8_oneTick_67 : decode cX8_oneTick 67 = .ok (.invokevirtual 414, 3) := dk_182 1 158 (dk_at dksX8_oneTick_2 19 rfl rfl)
theorem dX8_oneTick_70 : decode cX8_oneTick 70 = .ok (.aload_n 0, 1) := dk_42 (dk_at dksX8_oneTick_2 22 rfl rfl)
theorem dX8_oneTick_71 : decode cX8_oneTick 71 = .ok (.invokevirtual 417, 3) := dk_182 1 161 (dk_at dksX8_oneTick_3 0 rfl rfl)
theorem dX8_oneTick_74 : decode cX8_oneTick 74 = .ok (.istore 5, 2) := dk_54 5 (dk_at dksX8_oneTick_3 3 rfl rfl)
theorem dX8_oneTick_76 : decode cX8_oneTick 76 = .ok (.iload 5, 2) := dk_21 5 (dk_at dksX8_oneTick_3 5 rfl rfl)
theorem dX8_oneTick_78 : decode cX8_oneTick 78 = .ok (.iconst (-1), 1) := dk_2 (dk_at dksX8_oneTick_3 7 rfl rfl)
theorem dX8_oneTick_79 : decode cX8_oneTick 79 = .ok (.if_icmp .eq 12, 3) := dk_159 0 12 (dk_at dksX8_oneTick_3 8 rfl rfl)
theorem dX8_oneTick_82 : decode cX8_oneTick 82 = .ok (.aload_n 0, 1) := dk_42 (dk_at dksX8_oneTick_3 11 rfl rfl)
theorem dX8_oneTick_83 : decode cX8_oneTick 83 = .ok (.iload 4, 2) := dk_21 4 (dk_at dksX8_oneTick_3 12 rfl rfl)
theorem dX8_oneTick_85 : decode cX8_oneTick 85 = .ok (.iload 5, 2) := dk_21 5 (dk_at dksX8_oneTick_3 14 rfl rfl)
theorem dX8_oneTick_87 : decode cX8_oneTick 87 = .ok (.iload_n 3, 1) := dk_29 (dk_at dksX8_oneTick_3 16 rfl rfl)
theorem dX8_oneTick_88 : decode cX8_oneTick 88 = .ok (.invokevirtual 411, 3) := dk_182 1 155 (dk_at dksX8_oneTick_3 17 rfl rfl)
theorem dX8_oneTick_91 : decode cX8_oneTick 91 = .ok (.iload_n 2, 1) := dk_28 (dk_at dksX8_oneTick_3 20 rfl rfl)
theorem dX8_oneTick_92 : decode cX8_oneTick 92 = .ok (.ifCond .eq 18, 3) := dk_153 0 18 (dk_at dksX8_oneTick_3 21 rfl rfl)
theorem dX8_oneTick_95 : decode cX8_oneTick 95 = .ok (.aload_n 0, 1) := dk_42 (dk_at dksX8_oneTick_4 0 rfl rfl)
theorem dX8_oneTick_96 : decode cX8_oneTick 96 = .ok (.invokevirtual 408, 3) := dk_182 1 152 (dk_at dksX8_oneTick_4 1 rfl rfl)
theorem dX8_oneTick_99 : decode cX8_oneTick 99 = .ok (.ifCond .ne 11, 3) := dk_154 0 11 (dk_at dksX8_oneTick_4 4 rfl rfl)
theorem dX8_oneTick_102 : decode cX8_oneTick 102 = .ok (.aload_n 0, 1) := dk_42 (dk_at dksX8_oneTick_4 7 rfl rfl)
theorem dX8_oneTick_103 : decode cX8_oneTick 103 = .ok (.iload 4, 2) := dk_21 4 (dk_at dksX8_oneTick_4 8 rfl rfl)
theorem dX8_oneTick_105 : decode cX8_oneTick 105 = .ok (.iconst 3, 1) := dk_6 (dk_at dksX8_oneTick_4 10 rfl rfl)
theorem dX8_oneTick_106 : decode cX8_oneTick 106 = .ok (.iload_n 3, 1) := dk_29 (dk_at dksX8_oneTick_4 11 rfl rfl)
theorem dX8_oneTick_107 : decode cX8_oneTick 107 = .ok (.invokevirtual 411, 3) := dk_182 1 155 (dk_at dksX8_oneTick_4 12 rfl rfl)
theorem dX8_oneTick_110 : decode cX8_oneTick 110 = .ok (.iload 5, 2) := dk_21 5 (dk_at dksX8_oneTick_4 15 rfl rfl)
theorem dX8_oneTick_112 : decode cX8_oneTick 112 = .ok (.iconst 0, 1) := dk_3 (dk_at dksX8_oneTick_4 17 rfl rfl)
theorem dX8_oneTick_113 : decode cX8_oneTick 113 = .ok (.iconst 1, 1) := dk_4 (dk_at dksX8_oneTick_4 18 rfl rfl)
theorem dX8_oneTick_114 : decode cX8_oneTick 114 = .ok (.invokestatic 88, 3) := dk_184 0 88 (dk_at dksX8_oneTick_4 19 rfl rfl)
theorem dX8_oneTick_117 : decode cX8_oneTick 117 = .ok (.istore 6, 2) := dk_54 6 (dk_at dksX8_oneTick_4 22 rfl rfl)
theorem dX8_oneTick_119 : decode cX8_oneTick 119 = .ok (.iload 6, 2) := dk_21 6 (dk_at dksX8_oneTick_5 0 rfl rfl)
theorem dX8_oneTick_121 : decode cX8_oneTick 121 = .ok (.ifCond .eq 30, 3) := dk_153 0 30 (dk_at dksX8_oneTick_5 2 rfl rfl)
theorem dX8_oneTick_124 : decode cX8_oneTick 124 = .ok (.aload_n 0, 1) := dk_42 (dk_at dksX8_oneTick_5 5 rfl rfl)
theorem dX8_oneTick_125 : decode cX8_oneTick 125 = .ok (.getfield 13, 3) := dk_180 0 13 (dk_at dksX8_oneTick_5 6 rfl rfl)
theorem dX8_oneTick_128 : decode cX8_oneTick 128 = .ok (.bipush 9, 2) := dk_16 9 (dk_at dksX8_oneTick_5 9 rfl rfl)
theorem dX8_oneTick_130 : decode cX8_oneTick 130 = .ok (.sipush 9999, 3) := dk_17 39 15 (dk_at dksX8_oneTick_5 11 rfl rfl)
theorem dX8_oneTick_133 : decode cX8_oneTick 133 = .ok (.aload_n 0, 1) := dk_42 (dk_at dksX8_oneTick_5 14 rfl rfl)
theorem dX8_oneTick_134 : decode cX8_oneTick 134 = .ok (.getfield 13, 3) := dk_180 0 13 (dk_at dksX8_oneTick_5 15 rfl rfl)
theorem dX8_oneTick_137 : decode cX8_oneTick 137 = .ok (.bipush 9, 2) := dk_16 9 (dk_at dksX8_oneTick_5 18 rfl rfl)
theorem dX8_oneTick_139 : decode cX8_oneTick 139 = .ok (.iaload, 1) := dk_46 (dk_at dksX8_oneTick_5 20 rfl rfl)
theorem dX8_oneTick_140 : decode cX8_oneTick 140 = .ok (.aload_n 0, 1) := dk_42 (dk_at dksX8_oneTick_5 21 rfl rfl)
theorem dX8_oneTick_141 : decode cX8_oneTick 141 = .ok (.iload 4, 2) := dk_21 4 (dk_at dksX8_oneTick_5 22 rfl rfl)
theorem dX8_oneTick_143 : decode cX8_oneTick 143 = .ok (.invokevirtual 420, 3) := dk_182 1 164 (dk_at dksX8_oneTick_6 0 rfl rfl)
theorem dX8_oneTick_146 : decode cX8_oneTick 146 = .ok (.iadd, 1) := dk_96 (dk_at dksX8_oneTick_6 3 rfl rfl)
theorem dX8_oneTick_147 : decode cX8_oneTick 147 = .ok (.invokestatic 387, 3) := dk_184 1 131 (dk_at dksX8_oneTick_6 4 rfl rfl)
theorem dX8_oneTick_150 : decode cX8_oneTick 150 = .ok (.iastore, 1) := dk_79 (dk_at dksX8_oneTick_6 7 rfl rfl)
theorem dX8_oneTick_151 : decode cX8_oneTick 151 = .ok (.aload_n 0, 1) := dk_42 (dk_at dksX8_oneTick_6 8 rfl rfl)
theorem dX8_oneTick_152 : decode cX8_oneTick 152 = .ok (.getfield 13, 3) := dk_180 0 13 (dk_at dksX8_oneTick_6 9 rfl rfl)
theorem dX8_oneTick_155 : decode cX8_oneTick 155 = .ok (.bipush 8, 2) := dk_16 8 (dk_at dksX8_oneTick_6 12 rfl rfl)
theorem dX8_oneTick_157 : decode cX8_oneTick 157 = .ok (.sipush 9999, 3) := dk_17 39 15 (dk_at dksX8_oneTick_6 14 rfl rfl)
theorem dX8_oneTick_160 : decode cX8_oneTick 160 = .ok (.aload_n 0, 1) := dk_42 (dk_at dksX8_oneTick_6 17 rfl rfl)
theorem dX8_oneTick_161 : decode cX8_oneTick 161 = .ok (.getfield 13, 3) := dk_180 0 13 (dk_at dksX8_oneTick_6 18 rfl rfl)
theorem dX8_oneTick_164 : decode cX8_oneTick 164 = .ok (.bipush 8, 2) := dk_16 8 (dk_at dksX8_oneTick_6 21 rfl rfl)
theorem dX8_oneTick_166 : decode cX8_oneTick 166 = .ok (.iaload, 1) := dk_46 (dk_at dksX8_oneTick_6 23 rfl rfl)
theorem dX8_oneTick_167 : decode cX8_oneTick 167 = .ok (.iconst 1, 1) := dk_4 (dk_at dksX8_oneTick_7 0 rfl rfl)
theorem dX8_oneTick_168 : decode cX8_oneTick 168 = .ok (.iadd, 1) := dk_96 (dk_at dksX8_oneTick_7 1 rfl rfl)
theorem dX8_oneTick_169 : decode cX8_oneTick 169 = .ok (.invokestatic 387, 3) := dk_184 1 131 (dk_at dksX8_oneTick_7 2 rfl rfl)
theorem dX8_oneTick_172 : decode cX8_oneTick 172 = .ok (.iastore, 1) := dk_79 (dk_at dksX8_oneTick_7 5 rfl rfl)
theorem dX8_oneTick_173 : decode cX8_oneTick 173 = .ok (.iload 6, 2) := dk_21 6 (dk_at dksX8_oneTick_7 6 rfl rfl)
theorem dX8_oneTick_175 : decode cX8_oneTick 175 = .ok (.ireturn, 1) := dk_172 (dk_at dksX8_oneTick_7 8 rfl rfl)
abbrev cX8_areAlike : ByteArray := prog_19_method_86_code
def yX8_areAlike : MethodName := ⟨RX8, "areAlike", "()Z"⟩
def dkwX8_areAlike_2 : List UInt8 := [27, 172]
abbrev dktX8_areAlike_2 : List UInt8 := dkwX8_areAlike_2 ++ []
def dkwX8_areAlike_1 : List UInt8 := [182, 1, 128, 42, 4, 28, 182, 1, 128, 160, 0, 7, 4, 167, 0, 4, 3, 60, 132, 2, 1, 167, 255, 217]
abbrev dktX8_areAlike_1 : List UInt8 := dkwX8_areAlike_1 ++ dktX8_areAlike_2
def dkwX8_areAlike_0 : List UInt8 := [4, 60, 3, 61, 28, 16, 13, 162, 0, 39, 27, 153, 0, 27, 28, 7, 159, 0, 18, 42, 3, 28]
abbrev dktX8_areAlike_0 : List UInt8 := dkwX8_areAlike_0 ++ dktX8_areAlike_1
theorem dksX8_areAlike_0 : cX8_areAlike.data.toList.drop 0 = dktX8_areAlike_0 := by decide +kernel
theorem dksX8_areAlike_1 : cX8_areAlike.data.toList.drop 22 = dktX8_areAlike_1 := dk_seg dksX8_areAlike_0 22 rfl rfl
theorem dksX8_areAlike_2 : cX8_areAlike.data.toList.drop 46 = dktX8_areAlike_2 := dk_seg dksX8_areAlike_1 24 rfl rfl
theorem dX8_areAlike_0 : decode cX8_areAlike 0 = .ok (.iconst 1, 1) := dk_4 (dk_at dksX8_areAlike_0 0 rfl rfl)
theorem dX8_areAlike_1 : decode cX8_areAlike 1 = .ok (.istore_n 1, 1) := dk_60 (dk_at dksX8_areAlike_0 1 rfl rfl)
theorem dX8_areAlike_2 : decode cX8_areAlike 2 = .ok (.iconst 0, 1) := dk_3 (dk_at dksX8_areAlike_0 2 rfl rfl)
theorem dX8_areAlike_3 : decode cX8_areAlike 3 = .ok (.istore_n 2, 1) := dk_61 (dk_at dksX8_areAlike_0 3 rfl rfl)
theorem dX8_areAlike_4 : decode cX8_areAlike 4 = .ok (.iload_n 2, 1) := dk_28 (dk_at dksX8_areAlike_0 4 rfl rfl)
theorem dX8_areAlike_5 : decode cX8_areAlike 5 = .ok (.bipush 13, 2) := dk_16 13 (dk_at dksX8_areAlike_0 5 rfl rfl)
theorem dX8_areAlike_7 : decode cX8_areAlike 7 = .ok (.if_icmp .ge 39, 3) := dk_162 0 39 (dk_at dksX8_areAlike_0 7 rfl rfl)
theorem dX8_areAlike_10 : decode cX8_areAlike 10 = .ok (.iload_n 1, 1) := dk_27 (dk_at dksX8_areAlike_0 10 rfl rfl)
theorem dX8_areAlike_11 : decode cX8_areAlike 11 = .ok (.ifCond .eq 27, 3) := dk_153 0 27 (dk_at dksX8_areAlike_0 11 rfl rfl)
theorem dX8_areAlike_14 : decode cX8_areAlike 14 = .ok (.iload_n 2, 1) := dk_28 (dk_at dksX8_areAlike_0 14 rfl rfl)
theorem dX8_areAlike_15 : decode cX8_areAlike 15 = .ok (.iconst 4, 1) := dk_7 (dk_at dksX8_areAlike_0 15 rfl rfl)
theorem dX8_areAlike_16 : decode cX8_areAlike 16 = .ok (.if_icmp .eq 18, 3) := dk_159 0 18 (dk_at dksX8_areAlike_0 16 rfl rfl)
theorem dX8_areAlike_19 : decode cX8_areAlike 19 = .ok (.aload_n 0, 1) := dk_42 (dk_at dksX8_areAlike_0 19 rfl rfl)
theorem dX8_areAlike_20 : decode cX8_areAlike 20 = .ok (.iconst 0, 1) := dk_3 (dk_at dksX8_areAlike_0 20 rfl rfl)
theorem dX8_areAlike_21 : decode cX8_areAlike 21 = .ok (.iload_n 2, 1) := dk_28 (dk_at dksX8_areAlike_0 21 rfl rfl)
theorem dX8_areAlike_22 : decode cX8_areAlike 22 = .ok (.invokevirtual 384, 3) := dk_182 1 128 (dk_at dksX8_areAlike_1 0 rfl rfl)
theorem dX8_areAlike_25 : decode cX8_areAlike 25 = .ok (.aload_n 0, 1) := dk_42 (dk_at dksX8_areAlike_1 3 rfl rfl)
theorem dX8_areAlike_26 : decode cX8_areAlike 26 = .ok (.iconst 1, 1) := dk_4 (dk_at dksX8_areAlike_1 4 rfl rfl)
theorem dX8_areAlike_27 : decode cX8_areAlike 27 = .ok (.iload_n 2, 1) := dk_28 (dk_at dksX8_areAlike_1 5 rfl rfl)
theorem dX8_areAlike_28 : decode cX8_areAlike 28 = .ok (.invokevirtual 384, 3) := dk_182 1 128 (dk_at dksX8_areAlike_1 6 rfl rfl)
theorem dX8_areAlike_31 : decode cX8_areAlike 31 = .ok (.if_icmp .ne 7, 3) := dk_160 0 7 (dk_at dksX8_areAlike_1 9 rfl rfl)
theorem dX8_areAlike_34 : decode cX8_areAlike 34 = .ok (.iconst 1, 1) := dk_4 (dk_at dksX8_areAlike_1 12 rfl rfl)
theorem dX8_areAlike_35 : decode cX8_areAlike 35 = .ok (.goto 4, 3) := dk_167 0 4 (dk_at dksX8_areAlike_1 13 rfl rfl)
theorem dX8_areAlike_38 : decode cX8_areAlike 38 = .ok (.iconst 0, 1) := dk_3 (dk_at dksX8_areAlike_1 16 rfl rfl)
theorem dX8_areAlike_39 : decode cX8_areAlike 39 = .ok (.istore_n 1, 1) := dk_60 (dk_at dksX8_areAlike_1 17 rfl rfl)
theorem dX8_areAlike_40 : decode cX8_areAlike 40 = .ok (.iinc 2 1, 3) := dk_132 2 1 (dk_at dksX8_areAlike_1 18 rfl rfl)
theorem dX8_areAlike_43 : decode cX8_areAlike 43 = .ok (.goto (-39), 3) := dk_167 255 217 (dk_at dksX8_areAlike_1 21 rfl rfl)
theorem dX8_areAlike_46 : decode cX8_areAlike 46 = .ok (.iload_n 1, 1) := dk_27 (dk_at dksX8_areAlike_2 0 rfl rfl)
theorem dX8_areAlike_47 : decode cX8_areAlike 47 = .ok (.ireturn, 1) := dk_172 (dk_at dksX8_areAlike_2 1 rfl rfl)
abbrev cX8_isTold : ByteArray := prog_19_method_87_code
def yX8_isTold : MethodName := ⟨RX8, "isTold", "(III)V"⟩
def dkwX8_isTold_4 : List UInt8 := [180, 0, 13, 16, 10, 46, 4, 96, 184, 1, 131, 79, 177]
abbrev dktX8_isTold_4 : List UInt8 := dkwX8_isTold_4 ++ []
def dkwX8_isTold_3 : List UInt8 := [17, 0, 130, 28, 79, 42, 180, 0, 13, 17, 0, 131, 29, 79, 42, 180, 0, 13, 16, 10, 16, 60, 42]
abbrev dktX8_isTold_3 : List UInt8 := dkwX8_isTold_3 ++ dktX8_isTold_4
def dkwX8_isTold_2 : List UInt8 := [17, 0, 128, 42, 180, 0, 13, 16, 8, 46, 79, 42, 180, 0, 13, 17, 0, 129, 27, 79, 42, 180, 0, 13]
abbrev dktX8_isTold_2 : List UInt8 := dkwX8_isTold_2 ++ dktX8_isTold_3
def dkwX8_isTold_1 : List UInt8 := [180, 0, 13, 17, 0, 128, 21, 4, 96, 7, 100, 46, 79, 132, 4, 255, 167, 255, 223, 42, 180, 0, 13]
abbrev dktX8_isTold_1 : List UInt8 := dkwX8_isTold_1 ++ dktX8_isTold_2
def dkwX8_isTold_0 : List UInt8 := [17, 0, 239, 54, 4, 21, 4, 7, 161, 0, 33, 42, 180, 0, 13, 17, 0, 128, 21, 4, 96, 42]
abbrev dktX8_isTold_0 : List UInt8 := dkwX8_isTold_0 ++ dktX8_isTold_1
theorem dksX8_isTold_0 : cX8_isTold.data.toList.drop 0 = dktX8_isTold_0 := by decide +kernel
theorem dksX8_isTold_1 : cX8_isTold.data.toList.drop 22 = dktX8_isTold_1 := dk_seg dksX8_isTold_0 22 rfl rfl
theorem dksX8_isTold_2 : cX8_isTold.data.toList.drop 45 = dktX8_isTold_2 := dk_seg dksX8_isTold_1 23 rfl rfl
theorem dksX8_isTold_3 : cX8_isTold.data.toList.drop 69 = dktX8_isTold_3 := dk_seg dksX8_isTold_2 24 rfl rfl
theorem dksX8_isTold_4 : cX8_isTold.data.toList.drop 92 = dktX8_isTold_4 := dk_seg dksX8_isTold_3 23 rfl rfl
theorem dX8_isTold_0 : decode cX8_isTold 0 = .ok (.sipush 239, 3) := dk_17 0 239 (dk_at dksX8_isTold_0 0 rfl rfl)
theorem dX8_isTold_3 : decode cX8_isTold 3 = .ok (.istore 4, 2) := dk_54 4 (dk_at dksX8_isTold_0 3 rfl rfl)
theorem dX8_isTold_5 : decode cX8_isTold 5 = .ok (.iload 4, 2) := dk_21 4 (dk_at dksX8_isTold_0 5 rfl rfl)
theorem dX8_isTold_7 : decode cX8_isTold 7 = .ok (.iconst 4, 1) := dk_7 (dk_at dksX8_isTold_0 7 rfl rfl)
theorem dX8_isTold_8 : decode cX8_isTold 8 = .ok (.if_icmp .lt 33, 3) := dk_161 0 33 (dk_at dksX8_isTold_0 8 rfl rfl)
theorem dX8_isTold_11 : decode cX8_isTold 11 = .ok (.aload_n 0, 1) := dk_42 (dk_at dksX8_isTold_0 11 rfl rfl)
theorem dX8_isTold_12 : decode cX8_isTold 12 = .ok (.getfield 13, 3) := dk_180 0 13 (dk_at dksX8_isTold_0 12 rfl rfl)
theorem dX8_isTold_15 : decode cX8_isTold 15 = .ok (.sipush 128, 3) := dk_17 0 128 (dk_at dksX8_isTold_0 15 rfl rfl)
theorem dX8_isTold_18 : decode cX8_isTold 18 = .ok (.iload 4, 2) := dk_21 4 (dk_at dksX8_isTold_0 18 rfl rfl)
theorem dX8_isTold_20 : decode cX8_isTold 20 = .ok (.iadd, 1) := dk_96 (dk_at dksX8_isTold_0 20 rfl rfl)
theorem dX8_isTold_21 : decode cX8_isTold 21 = .ok (.aload_n 0, 1) := dk_42 (dk_at dksX8_isTold_0 21 rfl rfl)
theorem dX8_isTold_22 : decode cX8_isTold 22 = .ok (.getfield 13, 3) := dk_180 0 13 (dk_at dksX8_isTold_1 0 rfl rfl)
theorem dX8_isTold_25 : decode cX8_isTold 25 = .ok (.sipush 128, 3) := dk_17 0 128 (dk_at dksX8_isTold_1 3 rfl rfl)
theorem dX8_isTold_28 : decode cX8_isTold 28 = .ok (.iload 4, 2) := dk_21 4 (dk_at dksX8_isTold_1 6 rfl rfl)
theorem dX8_isTold_30 : decode cX8_isTold 30 = .ok (.iadd, 1) := dk_96 (dk_at dksX8_isTold_1 8 rfl rfl)
theorem dX8_isTold_31 : decode cX8_isTold 31 = .ok (.iconst 4, 1) := dk_7 (dk_at dksX8_isTold_1 9 rfl rfl)
theorem dX8_isTold_32 : decode cX8_isTold 32 = .ok (.isub, 1) := dk_100 (dk_at dksX8_isTold_1 10 rfl rfl)
theorem dX8_isTold_33 : decode cX8_isTold 33 = .ok (.iaload, 1) := dk_46 (dk_at dksX8_isTold_1 11 rfl rfl)
theorem dX8_isTold_34 : decode cX8_isTold 34 = .ok (.iastore, 1) := dk_79 (dk_at dksX8_isTold_1 12 rfl rfl)
theorem dX8_isTold_35 : decode cX8_isTold 35 = .ok (.iinc 4 (-1), 3) := dk_132 4 255 (dk_at dksX8_isTold_1 13 rfl rfl)
theorem dX8_isTold_38 : decode cX8_isTold 38 = .ok (.goto (-33), 3) := dk_167 255 223 (dk_at dksX8_isTold_1 16 rfl rfl)
theorem dX8_isTold_41 : decode cX8_isTold 41 = .ok (.aload_n 0, 1) := dk_42 (dk_at dksX8_isTold_1 19 rfl rfl)
theorem dX8_isTold_42 : decode cX8_isTold 42 = .ok (.getfield 13, 3) := dk_180 0 13 (dk_at dksX8_isTold_1 20 rfl rfl)
theorem dX8_isTold_45 : decode cX8_isTold 45 = .ok (.sipush 128, 3) := dk_17 0 128 (dk_at dksX8_isTold_2 0 rfl rfl)
theorem dX8_isTold_48 : decode cX8_isTold 48 = .ok (.aload_n 0, 1) := dk_42 (dk_at dksX8_isTold_2 3 rfl rfl)
theorem dX8_isTold_49 : decode cX8_isTold 49 = .ok (.getfield 13, 3) := dk_180 0 13 (dk_at dksX8_isTold_2 4 rfl rfl)
theorem dX8_isTold_52 : decode cX8_isTold 52 = .ok (.bipush 8, 2) := dk_16 8 (dk_at dksX8_isTold_2 7 rfl rfl)
theorem dX8_isTold_54 : decode cX8_isTold 54 = .ok (.iaload, 1) := dk_46 (dk_at dksX8_isTold_2 9 rfl rfl)
theorem dX8_isTold_55 : decode cX8_isTold 55 = .ok (.iastore, 1) := dk_79 (dk_at dksX8_isTold_2 10 rfl rfl)
theorem dX8_isTold_56 : decode cX8_isTold 56 = .ok (.aload_n 0, 1) := dk_42 (dk_at dksX8_isTold_2 11 rfl rfl)
theorem dX8_isTold_57 : decode cX8_isTold 57 = .ok (.getfield 13, 3) := dk_180 0 13 (dk_at dksX8_isTold_2 12 rfl rfl)
theorem dX8_isTold_60 : decode cX8_isTold 60 = .ok (.sipush 129, 3) := dk_17 0 129 (dk_at dksX8_isTold_2 15 rfl rfl)
theorem dX8_isTold_63 : decode cX8_isTold 63 = .ok (.iload_n 1, 1) := dk_27 (dk_at dksX8_isTold_2 18 rfl rfl)
theorem dX8_isTold_64 : decode cX8_isTold 64 = .ok (.iastore, 1) := dk_79 (dk_at dksX8_isTold_2 19 rfl rfl)
theorem dX8_isTold_65 : decode cX8_isTold 65 = .ok (.aload_n 0, 1) := dk_42 (dk_at dksX8_isTold_2 20 rfl rfl)
theorem dX8_isTold_66 : decode cX8_isTold 66 = .ok (.getfield 13, 3) := dk_180 0 13 (dk_at dksX8_isTold_2 21 rfl rfl)
theorem dX8_isTold_69 : decode cX8_isTold 69 = .ok (.sipush 130, 3) := dk_17 0 130 (dk_at dksX8_isTold_3 0 rfl rfl)
theorem dX8_isTold_72 : decode cX8_isTold 72 = .ok (.iload_n 2, 1) := dk_28 (dk_at dksX8_isTold_3 3 rfl rfl)
theorem dX8_isTold_73 : decode cX8_isTold 73 = .ok (.iastore, 1) := dk_79 (dk_at dksX8_isTold_3 4 rfl rfl)
theorem dX8_isTold_74 : decode cX8_isTold 74 = .ok (.aload_n 0, 1) := dk_42 (dk_at dksX8_isTold_3 5 rfl rfl)
theorem dX8_isTold_75 : decode cX8_isTold 75 = .ok (.getfield 13, 3) := dk_180 0 13 (dk_at dksX8_isTold_3 6 rfl rfl)
theorem dX8_isTold_78 : decode cX8_isTold 78 = .ok (.sipush 131, 3) := dk_17 0 131 (dk_at dksX8_isTold_3 9 rfl rfl)
theorem dX8_isTold_81 : decode cX8_isTold 81 = .ok (.iload_n 3, 1) := dk_29 (dk_at dksX8_isTold_3 12 rfl rfl)
theorem dX8_isTold_82 : decode cX8_isTold 82 = .ok (.iastore, 1) := dk_79 (dk_at dksX8_isTold_3 13 rfl rfl)
theorem dX8_isTold_83 : decode cX8_isTold 83 = .ok (.aload_n 0, 1) := dk_42 (dk_at dksX8_isTold_3 14 rfl rfl)
theorem dX8_isTold_84 : decode cX8_isTold 84 = .ok (.getfield 13, 3) := dk_180 0 13 (dk_at dksX8_isTold_3 15 rfl rfl)
theorem dX8_isTold_87 : decode cX8_isTold 87 = .ok (.bipush 10, 2) := dk_16 10 (dk_at dksX8_isTold_3 18 rfl rfl)
theorem dX8_isTold_89 : decode cX8_isTold 89 = .ok (.bipush 60, 2) := dk_16 60 (dk_at dksX8_isTold_3 20 rfl rfl)
theorem dX8_isTold_91 : decode cX8_isTold 91 = .ok (.aload_n 0, 1) := dk_42 (dk_at dksX8_isTold_3 22 rfl rfl)
theorem dX8_isTold_92 : decode cX8_isTold 92 = .ok (.getfield 13, 3) := dk_180 0 13 (dk_at dksX8_isTold_4 0 rfl rfl)
theorem dX8_isTold_95 : decode cX8_isTold 95 = .ok (.bipush 10, 2) := dk_16 10 (dk_at dksX8_isTold_4 3 rfl rfl)
theorem dX8_isTold_97 : decode cX8_isTold 97 = .ok (.iaload, 1) := dk_46 (dk_at dksX8_isTold_4 5 rfl rfl)
theorem dX8_isTold_98 : decode cX8_isTold 98 = .ok (.iconst 1, 1) := dk_4 (dk_at dksX8_isTold_4 6 rfl rfl)
theorem dX8_isTold_99 : decode cX8_isTold 99 = .ok (.iadd, 1) := dk_96 (dk_at dksX8_isTold_4 7 rfl rfl)
theorem dX8_isTold_100 : decode cX8_isTold 100 = .ok (.invokestatic 387, 3) := dk_184 1 131 (dk_at dksX8_isTold_4 8 rfl rfl)
theorem dX8_isTold_103 : decode cX8_isTold 103 = .ok (.iastore, 1) := dk_79 (dk_at dksX8_isTold_4 11 rfl rfl)
theorem dX8_isTold_104 : decode cX8_isTold 104 = .ok (.return_, 1) := dk_177 (dk_at dksX8_isTold_4 12 rfl rfl)
abbrev cX8_isCaught : ByteArray := prog_19_method_83_code
def yX8_isCaught : MethodName := ⟨RX8, "isCaught", "(I)V"⟩
def dkwX8_isCaught_1 : List UInt8 := [7, 46, 79, 177]
abbrev dktX8_isCaught_1 : List UInt8 := dkwX8_isCaught_1 ++ []
def dkwX8_isCaught_0 : List UInt8 := [42, 180, 0, 13, 27, 5, 184, 0, 81, 4, 79, 42, 180, 0, 13, 27, 3, 184, 0, 81, 42, 180, 0, 13]
abbrev dktX8_isCaught_0 : List UInt8 := dkwX8_isCaught_0 ++ dktX8_isCaught_1
theorem dksX8_isCaught_0 : cX8_isCaught.data.toList.drop 0 = dktX8_isCaught_0 := by decide +kernel
theorem dksX8_isCaught_1 : cX8_isCaught.data.toList.drop 24 = dktX8_isCaught_1 := dk_seg dksX8_isCaught_0 24 rfl rfl
theorem dX8_isCaught_0 : decode cX8_isCaught 0 = .ok (.aload_n 0, 1) := dk_42 (dk_at dksX8_isCaught_0 0 rfl rfl)
theorem dX8_isCaught_1 : decode cX8_isCaught 1 = .ok (.getfield 13, 3) := dk_180 0 13 (dk_at dksX8_isCaught_0 1 rfl rfl)
theorem dX8_isCaught_4 : decode cX8_isCaught 4 = .ok (.iload_n 1, 1) := dk_27 (dk_at dksX8_isCaught_0 4 rfl rfl)
theorem dX8_isCaught_5 : decode cX8_isCaught 5 = .ok (.iconst 2, 1) := dk_5 (dk_at dksX8_isCaught_0 5 rfl rfl)
theorem dX8_isCaught_6 : decode cX8_isCaught 6 = .ok (.invokestatic 81, 3) := dk_184 0 81 (dk_at dksX8_isCaught_0 6 rfl rfl)
theorem dX8_isCaught_9 : decode cX8_isCaught 9 = .ok (.iconst 1, 1) := dk_4 (dk_at dksX8_isCaught_0 9 rfl rfl)
theorem dX8_isCaught_10 : decode cX8_isCaught 10 = .ok (.iastore, 1) := dk_79 (dk_at dksX8_isCaught_0 10 rfl rfl)
theorem dX8_isCaught_11 : decode cX8_isCaught 11 = .ok (.aload_n 0, 1) := dk_42 (dk_at dksX8_isCaught_0 11 rfl rfl)
theorem dX8_isCaught_12 : decode cX8_isCaught 12 = .ok (.getfield 13, 3) := dk_180 0 13 (dk_at dksX8_isCaught_0 12 rfl rfl)
theorem dX8_isCaught_15 : decode cX8_isCaught 15 = .ok (.iload_n 1, 1) := dk_27 (dk_at dksX8_isCaught_0 15 rfl rfl)
theorem dX8_isCaught_16 : decode cX8_isCaught 16 = .ok (.iconst 0, 1) := dk_3 (dk_at dksX8_isCaught_0 16 rfl rfl)
theorem dX8_isCaught_17 : decode cX8_isCaught 17 = .ok (.invokestatic 81, 3) := dk_184 0 81 (dk_at dksX8_isCaught_0 17 rfl rfl)
theorem dX8_isCaught_20 : decode cX8_isCaught 20 = .ok (.aload_n 0, 1) := dk_42 (dk_at dksX8_isCaught_0 20 rfl rfl)
theorem dX8_isCaught_21 : decode cX8_isCaught 21 = .ok (.getfield 13, 3) := dk_180 0 13 (dk_at dksX8_isCaught_0 21 rfl rfl)
theorem dX8_isCaught_24 : decode cX8_isCaught 24 = .ok (.iconst 4, 1) := dk_7 (dk_at dksX8_isCaught_1 0 rfl rfl)
theorem dX8_isCaught_25 : decode cX8_isCaught 25 = .ok (.iaload, 1) := dk_46 (dk_at dksX8_isCaught_1 1 rfl rfl)
theorem dX8_isCaught_26 : decode cX8_isCaught 26 = .ok (.iastore, 1) := dk_79 (dk_at dksX8_isCaught_1 2 rfl rfl)
theorem dX8_isCaught_27 : decode cX8_isCaught 27 = .ok (.return_, 1) := dk_177 (dk_at dksX8_isCaught_1 3 rfl rfl)
abbrev cX8_bareSteps : ByteArray := prog_19_method_84_code
def yX8_bareSteps : MethodName := ⟨RX8, "bareSteps", "()V"⟩
def dkwX8_bareSteps_4 : List UInt8 := [182, 1, 128, 4, 96, 16, 8, 112, 79, 177]
abbrev dktX8_bareSteps_4 : List UInt8 := dkwX8_bareSteps_4 ++ []
def dkwX8_bareSteps_3 : List UInt8 := [42, 180, 1, 33, 79, 42, 3, 3, 182, 1, 146, 42, 180, 0, 13, 3, 7, 184, 0, 81, 42, 3, 7]
abbrev dktX8_bareSteps_3 : List UInt8 := dkwX8_bareSteps_3 ++ dktX8_bareSteps_4
def dkwX8_bareSteps_2 : List UInt8 := [42, 3, 5, 182, 1, 128, 3, 182, 1, 142, 42, 27, 182, 1, 69, 42, 180, 0, 13, 3, 5, 184, 0, 81]
abbrev dktX8_bareSteps_2 : List UInt8 := dkwX8_bareSteps_2 ++ dktX8_bareSteps_3
def dkwX8_bareSteps_1 : List UInt8 := [42, 27, 42, 3, 5, 182, 1, 128, 182, 1, 62, 153, 0, 11, 42, 3, 182, 1, 139, 167, 0, 40, 42, 3]
abbrev dktX8_bareSteps_1 : List UInt8 := dkwX8_bareSteps_1 ++ dktX8_bareSteps_2
def dkwX8_bareSteps_0 : List UInt8 := [42, 3, 182, 1, 136, 153, 0, 4, 177, 42, 180, 0, 13, 16, 12, 42, 3, 3, 182, 1, 128, 96, 46, 60]
abbrev dktX8_bareSteps_0 : List UInt8 := dkwX8_bareSteps_0 ++ dktX8_bareSteps_1
theorem dksX8_bareSteps_0 : cX8_bareSteps.data.toList.drop 0 = dktX8_bareSteps_0 := by decide +kernel
theorem dksX8_bareSteps_1 : cX8_bareSteps.data.toList.drop 24 = dktX8_bareSteps_1 := dk_seg dksX8_bareSteps_0 24 rfl rfl
theorem dksX8_bareSteps_2 : cX8_bareSteps.data.toList.drop 48 = dktX8_bareSteps_2 := dk_seg dksX8_bareSteps_1 24 rfl rfl
theorem dksX8_bareSteps_3 : cX8_bareSteps.data.toList.drop 72 = dktX8_bareSteps_3 := dk_seg dksX8_bareSteps_2 24 rfl rfl
theorem dksX8_bareSteps_4 : cX8_bareSteps.data.toList.drop 95 = dktX8_bareSteps_4 := dk_seg dksX8_bareSteps_3 23 rfl rfl
theorem dX8_bareSteps_0 : decode cX8_bareSteps 0 = .ok (.aload_n 0, 1) := dk_42 (dk_at dksX8_bareSteps_0 0 rfl rfl)
theorem dX8_bareSteps_1 : decode cX8_bareSteps 1 = .ok (.iconst 0, 1) := dk_3 (dk_at dksX8_bareSteps_0 1 rfl rfl)
theorem dX8_bareSteps_2 : decode cX8_bareSteps 2 = .ok (.invokevirtual 392, 3) := dk_182 1 136 (dk_at dksX8_bareSteps_0 2 rfl rfl)
theorem dX8_bareSteps_5 : decode cX8_bareSteps 5 = .ok (.ifCond .eq 4, 3) := dk_153 0 4 (dk_at dksX8_bareSteps_0 5 rfl rfl)
theorem dX8_bareSteps_8 : decode cX8_bareSteps 8 = .ok (.return_, 1) := dk_177 (dk_at dksX8_bareSteps_0 8 rfl rfl)
theorem dX8_bareSteps_9 : decode cX8_bareSteps 9 = .ok (.aload_n 0, 1) := dk_42 (dk_at dksX8_bareSteps_0 9 rfl rfl)
theorem dX8_bareSteps_10 : decode cX8_bareSteps 10 = .ok (.getfield 13, 3) := dk_180 0 13 (dk_at dksX8_bareSteps_0 10 rfl rfl)
theorem dX8_bareSteps_13 : decode cX8_bareSteps 13 = .ok (.bipush 12, 2) := dk_16 12 (dk_at dksX8_bareSteps_0 13 rfl rfl)
theorem dX8_bareSteps_15 : decode cX8_bareSteps 15 = .ok (.aload_n 0, 1) := dk_42 (dk_at dksX8_bareSteps_0 15 rfl rfl)
theorem dX8_bareSteps_16 : decode cX8_bareSteps 16 = .ok (.iconst 0, 1) := dk_3 (dk_at dksX8_bareSteps_0 16 rfl rfl)
theorem dX8_bareSteps_17 : decode cX8_bareSteps 17 = .ok (.iconst 0, 1) := dk_3 (dk_at dksX8_bareSteps_0 17 rfl rfl)
theorem dX8_bareSteps_18 : decode cX8_bareSteps 18 = .ok (.invokevirtual 384, 3) := dk_182 1 128 (dk_at dksX8_bareSteps_0 18 rfl rfl)
theorem dX8_bareSteps_21 : decode cX8_bareSteps 21 = .ok (.iadd, 1) := dk_96 (dk_at dksX8_bareSteps_0 21 rfl rfl)
theorem dX8_bareSteps_22 : decode cX8_bareSteps 22 = .ok (.iaload, 1) := dk_46 (dk_at dksX8_bareSteps_0 22 rfl rfl)
theorem dX8_bareSteps_23 : decode cX8_bareSteps 23 = .ok (.istore_n 1, 1) := dk_60 (dk_at dksX8_bareSteps_0 23 rfl rfl)
theorem dX8_bareSteps_24 : decode cX8_bareSteps 24 = .ok (.aload_n 0, 1) := dk_42 (dk_at dksX8_bareSteps_1 0 rfl rfl)
theorem dX8_bareSteps_25 : decode cX8_bareSteps 25 = .ok (.iload_n 1, 1) := dk_27 (dk_at dksX8_bareSteps_1 1 rfl rfl)
theorem dX8_bareSteps_26 : decode cX8_bareSteps 26 = .ok (.aload_n 0, 1) := dk_42 (dk_at dksX8_bareSteps_1 2 rfl rfl)
theorem dX8_bareSteps_27 : decode cX8_bareSteps 27 = .ok (.iconst 0, 1) := dk_3 (dk_at dksX8_bareSteps_1 3 rfl rfl)
theorem dX8_bareSteps_28 : decode cX8_bareSteps 28 = .ok (.iconst 2, 1) := dk_5 (dk_at dksX8_bareSteps_1 4 rfl rfl)
theorem dX8_bareSteps_29 : decode cX8_bareSteps 29 = .ok (.invokevirtual 384, 3) := dk_182 1 128 (dk_at dksX8_bareSteps_1 5 rfl rfl)
theorem dX8_bareSteps_32 : decode cX8_bareSteps 32 = .ok (.invokevirtual 318, 3) := dk_182 1 62 (dk_at dksX8_bareSteps_1 8 rfl rfl)
theorem dX8_bareSteps_35 : decode cX8_bareSteps 35 = .ok (.ifCond .eq 11, 3) := dk_153 0 11 (dk_at dksX8_bareSteps_1 11 rfl rfl)
theorem dX8_bareSteps_38 : decode cX8_bareSteps 38 = .ok (.aload_n 0, 1) := dk_42 (dk_at dksX8_bareSteps_1 14 rfl rfl)
theorem dX8_bareSteps_39 : decode cX8_bareSteps 39 = .ok (.iconst 0, 1) := dk_3 (dk_at dksX8_bareSteps_1 15 rfl rfl)
theorem dX8_bareSteps_40 : decode cX8_bareSteps 40 = .ok (.invokevirtual 395, 3) := dk_182 1 139 (dk_at dksX8_bareSteps_1 16 rfl rfl)
theorem dX8_bareSteps_43 : decode cX8_bareSteps 43 = .ok (.goto 40, 3) := dk_167 0 40 (dk_at dksX8_bareSteps_1 19 rfl rfl)
theorem dX8_bareSteps_46 : decode cX8_bareSteps 46 = .ok (.aload_n 0, 1) := dk_42 (dk_at dksX8_bareSteps_1 22 rfl rfl)
theorem dX8_bareSteps_47 : decode cX8_bareSteps 47 = .ok (.iconst 0, 1) := dk_3 (dk_at dksX8_bareSteps_1 23 rfl rfl)
theorem dX8_bareSteps_48 : decode cX8_bareSteps 48 = .ok (.aload_n 0, 1) := dk_42 (dk_at dksX8_bareSteps_2 0 rfl rfl)
theorem dX8_bareSteps_49 : decode cX8_bareSteps 49 = .ok (.iconst 0, 1) := dk_3 (dk_at dksX8_bareSteps_2 1 rfl rfl)
theorem dX8_bareSteps_50 : decode cX8_bareSteps 50 = .ok (.iconst 2, 1) := dk_5 (dk_at dksX8_bareSteps_2 2 rfl rfl)
theorem dX8_bareSteps_51 : decode cX8_bareSteps 51 = .ok (.invokevirtual 384, 3) := dk_182 1 128 (dk_at dksX8_bareSteps_2 3 rfl rfl)
theorem dX8_bareSteps_54 : decode cX8_bareSteps 54 = .ok (.iconst 0, 1) := dk_3 (dk_at dksX8_bareSteps_2 6 rfl rfl)
theorem dX8_bareSteps_55 : decode cX8_bareSteps 55 = .ok (.invokevirtual 398, 3) := dk_182 1 142 (dk_at dksX8_bareSteps_2 7 rfl rfl)
theorem dX8_bareSteps_58 : decode cX8_bareSteps 58 = .ok (.aload_n 0, 1) := dk_42 (dk_at dksX8_bareSteps_2 10 rfl rfl)
theorem dX8_bareSteps_59 : decode cX8_bareSteps 59 = .ok (.iload_n 1, 1) := dk_27 (dk_at dksX8_bareSteps_2 11 rfl rfl)
theorem dX8_bareSteps_60 : decode cX8_bareSteps 60 = .ok (.invokevirtual 325, 3) := dk_182 1 69 (dk_at dksX8_bareSteps_2 12 rfl rfl)
theorem dX8_bareSteps_63 : decode cX8_bareSteps 63 = .ok (.aload_n 0, 1) := dk_42 (dk_at dksX8_bareSteps_2 15 rfl rfl)
theorem dX8_bareSteps_64 : decode cX8_bareSteps 64 = .ok (.getfield 13, 3) := dk_180 0 13 (dk_at dksX8_bareSteps_2 16 rfl rfl)
theorem dX8_bareSteps_67 : decode cX8_bareSteps 67 = .ok (.iconst 0, 1) := dk_3 (dk_at dksX8_bareSteps_2 19 rfl rfl)
theorem dX8_bareSteps_68 : decode cX8_bareSteps 68 = .ok (.iconst 2, 1) := dk_5 (dk_at dksX8_bareSteps_2 20 rfl rfl)
theorem dX8_bareSteps_69 : decode cX8_bareSteps 69 = .ok (.invokestatic 81, 3) := dk_184 0 81 (dk_at dksX8_bareSteps_2 21 rfl rfl)
theorem dX8_bareSteps_72 : decode cX8_bareSteps 72 = .ok (.aload_n 0, 1) := dk_42 (dk_at dksX8_bareSteps_3 0 rfl rfl)
theorem dX8_bareSteps_73 : decode cX8_bareSteps 73 = .ok (.getfield 289, 3) := dk_180 1 33 (dk_at dksX8_bareSteps_3 1 rfl rfl)
theorem dX8_bareSteps_76 : decode cX8_bareSteps 76 = .ok (.iastore, 1) := dk_79 (dk_at dksX8_bareSteps_3 4 rfl rfl)
theorem dX8_bareSteps_77 : decode cX8_bareSteps 77 = .ok (.aload_n 0, 1) := dk_42 (dk_at dksX8_bareSteps_3 5 rfl rfl)
theorem dX8_bareSteps_78 : decode cX8_bareSteps 78 = .ok (.iconst 0, 1) := dk_3 (dk_at dksX8_bareSteps_3 6 rfl rfl)
theorem dX8_bareSteps_79 : decode cX8_bareSteps 79 = .ok (.iconst 0, 1) := dk_3 (dk_at dksX8_bareSteps_3 7 rfl rfl)
theorem dX8_bareSteps_80 : decode cX8_bareSteps 80 = .ok (.invokevirtual 402, 3) := dk_182 1 146 (dk_at dksX8_bareSteps_3 8 rfl rfl)
theorem dX8_bareSteps_83 : decode cX8_bareSteps 83 = .ok (.aload_n 0, 1) := dk_42 (dk_at dksX8_bareSteps_3 11 rfl rfl)
theorem dX8_bareSteps_84 : decode cX8_bareSteps 84 = .ok (.getfield 13, 3) := dk_180 0 13 (dk_at dksX8_bareSteps_3 12 rfl rfl)
theorem dX8_bareSteps_87 : decode cX8_bareSteps 87 = .ok (.iconst 0, 1) := dk_3 (dk_at dksX8_bareSteps_3 15 rfl rfl)
theorem dX8_bareSteps_88 : decode cX8_bareSteps 88 = .ok (.iconst 4, 1) := dk_7 (dk_at dksX8_bareSteps_3 16 rfl rfl)
theorem dX8_bareSteps_89 : decode cX8_bareSteps 89 = .ok (.invokestatic 81, 3) := dk_184 0 81 (dk_at dksX8_bareSteps_3 17 rfl rfl)
theorem dX8_bareSteps_92 : decode cX8_bareSteps 92 = .ok (.aload_n 0, 1) := dk_42 (dk_at dksX8_bareSteps_3 20 rfl rfl)
theorem dX8_bareSteps_93 : decode cX8_bareSteps 93 = .ok (.iconst 0, 1) := dk_3 (dk_at dksX8_bareSteps_3 21 rfl rfl)
theorem dX8_bareSteps_94 : decode cX8_bareSteps 94 = .ok (.iconst 4, 1) := dk_7 (dk_at dksX8_bareSteps_3 22 rfl rfl)
theorem dX8_bareSteps_95 : decode cX8_bareSteps 95 = .ok (.invokevirtual 384, 3) := dk_182 1 128 (dk_at dksX8_bareSteps_4 0 rfl rfl)
theorem dX8_bareSteps_98 : decode cX8_bareSteps 98 = .ok (.iconst 1, 1) := dk_4 (dk_at dksX8_bareSteps_4 3 rfl rfl)
theorem dX8_bareSteps_99 : decode cX8_bareSteps 99 = .ok (.iadd, 1) := dk_96 (dk_at dksX8_bareSteps_4 4 rfl rfl)
theorem dX8_bareSteps_100 : decode cX8_bareSteps 100 = .ok (.bipush 8, 2) := dk_16 8 (dk_at dksX8_bareSteps_4 5 rfl rfl)
theorem dX8_bareSteps_102 : decode cX8_bareSteps 102 = .ok (.irem, 1) := dk_112 (dk_at dksX8_bareSteps_4 7 rfl rfl)
theorem dX8_bareSteps_103 : decode cX8_bareSteps 103 = .ok (.iastore, 1) := dk_79 (dk_at dksX8_bareSteps_4 8 rfl rfl)
theorem dX8_bareSteps_104 : decode cX8_bareSteps 104 = .ok (.return_, 1) := dk_177 (dk_at dksX8_bareSteps_4 9 rfl rfl)
abbrev cX8_comes : ByteArray := prog_19_method_81_code
def yX8_comes : MethodName := ⟨RX8, "comes", "(III)V"⟩
def dkwX8_comes_3 : List UInt8 := [132, 4, 1, 167, 255, 225, 177]
abbrev dktX8_comes_3 : List UInt8 := dkwX8_comes_3 ++ []
def dkwX8_comes_2 : List UInt8 := [162, 0, 30, 42, 180, 0, 39, 21, 4, 29, 96, 16, 8, 112, 42, 27, 8, 21, 4, 96, 182, 1, 128, 79]
abbrev dktX8_comes_2 : List UInt8 := dkwX8_comes_2 ++ dktX8_comes_3
def dkwX8_comes_1 : List UInt8 := [16, 8, 112, 181, 1, 27, 42, 42, 27, 7, 182, 1, 128, 181, 1, 36, 3, 54, 4, 21, 4, 16, 8]
abbrev dktX8_comes_1 : List UInt8 := dkwX8_comes_1 ++ dktX8_comes_2
def dkwX8_comes_0 : List UInt8 := [42, 42, 27, 4, 182, 1, 128, 181, 1, 30, 42, 28, 181, 1, 33, 42, 42, 27, 6, 182, 1, 128, 29, 96]
abbrev dktX8_comes_0 : List UInt8 := dkwX8_comes_0 ++ dktX8_comes_1
theorem dksX8_comes_0 : cX8_comes.data.toList.drop 0 = dktX8_comes_0 := by decide +kernel
theorem dksX8_comes_1 : cX8_comes.data.toList.drop 24 = dktX8_comes_1 := dk_seg dksX8_comes_0 24 rfl rfl
theorem dksX8_comes_2 : cX8_comes.data.toList.drop 47 = dktX8_comes_2 := dk_seg dksX8_comes_1 23 rfl rfl
theorem dksX8_comes_3 : cX8_comes.data.toList.drop 71 = dktX8_comes_3 := dk_seg dksX8_comes_2 24 rfl rfl
theorem dX8_comes_0 : decode cX8_comes 0 = .ok (.aload_n 0, 1) := dk_42 (dk_at dksX8_comes_0 0 rfl rfl)
theorem dX8_comes_1 : decode cX8_comes 1 = .ok (.aload_n 0, 1) := dk_42 (dk_at dksX8_comes_0 1 rfl rfl)
theorem dX8_comes_2 : decode cX8_comes 2 = .ok (.iload_n 1, 1) := dk_27 (dk_at dksX8_comes_0 2 rfl rfl)
theorem dX8_comes_3 : decode cX8_comes 3 = .ok (.iconst 1, 1) := dk_4 (dk_at dksX8_comes_0 3 rfl rfl)
theorem dX8_comes_4 : decode cX8_comes 4 = .ok (.invokevirtual 384, 3) := dk_182 1 128 (dk_at dksX8_comes_0 4 rfl rfl)
theorem dX8_comes_7 : decode cX8_comes 7 = .ok (.putfield 286, 3) := dk_181 1 30 (dk_at dksX8_comes_0 7 rfl rfl)
theorem dX8_comes_10 : decode cX8_comes 10 = .ok (.aload_n 0, 1) := dk_42 (dk_at dksX8_comes_0 10 rfl rfl)
theorem dX8_comes_11 : decode cX8_comes 11 = .ok (.iload_n 2, 1) := dk_28 (dk_at dksX8_comes_0 11 rfl rfl)
theorem dX8_comes_12 : decode cX8_comes 12 = .ok (.putfield 289, 3) := dk_181 1 33 (dk_at dksX8_comes_0 12 rfl rfl)
theorem dX8_comes_15 : decode cX8_comes 15 = .ok (.aload_n 0, 1) := dk_42 (dk_at dksX8_comes_0 15 rfl rfl)
theorem dX8_comes_16 : decode cX8_comes 16 = .ok (.aload_n 0, 1) := dk_42 (dk_at dksX8_comes_0 16 rfl rfl)
theorem dX8_comes_17 : decode cX8_comes 17 = .ok (.iload_n 1, 1) := dk_27 (dk_at dksX8_comes_0 17 rfl rfl)
theorem dX8_comes_18 : decode cX8_comes 18 = .ok (.iconst 3, 1) := dk_6 (dk_at dksX8_comes_0 18 rfl rfl)
theorem dX8_comes_19 : decode cX8_comes 19 = .ok (.invokevirtual 384, 3) := dk_182 1 128 (dk_at dksX8_comes_0 19 rfl rfl)
theorem dX8_comes_22 : decode cX8_comes 22 = .ok (.iload_n 3, 1) := dk_29 (dk_at dksX8_comes_0 22 rfl rfl)
theorem dX8_comes_23 : decode cX8_comes 23 = .ok (.iadd, 1) := dk_96 (dk_at dksX8_comes_0 23 rfl rfl)
theorem dX8_comes_24 : decode cX8_comes 24 = .ok (.bipush 8, 2) := dk_16 8 (dk_at dksX8_comes_1 0 rfl rfl)
theorem dX8_comes_26 : decode cX8_comes 26 = .ok (.irem, 1) := dk_112 (dk_at dksX8_comes_1 2 rfl rfl)
theorem dX8_comes_27 : decode cX8_comes 27 = .ok (.putfield 283, 3) := dk_181 1 27 (dk_at dksX8_comes_1 3 rfl rfl)
theorem dX8_comes_30 : decode cX8_comes 30 = .ok (.aload_n 0, 1) := dk_42 (dk_at dksX8_comes_1 6 rfl rfl)
theorem dX8_comes_31 : decode cX8_comes 31 = .ok (.aload_n 0, 1) := dk_42 (dk_at dksX8_comes_1 7 rfl rfl)
theorem dX8_comes_32 : decode cX8_comes 32 = .ok (.iload_n 1, 1) := dk_27 (dk_at dksX8_comes_1 8 rfl rfl)
theorem dX8_comes_33 : decode cX8_comes 33 = .ok (.iconst 4, 1) := dk_7 (dk_at dksX8_comes_1 9 rfl rfl)
theorem dX8_comes_34 : decode cX8_comes 34 = .ok (.invokevirtual 384, 3) := dk_182 1 128 (dk_at dksX8_comes_1 10 rfl rfl)
theorem dX8_comes_37 : decode cX8_comes 37 = .ok (.putfield 292, 3) := dk_181 1 36 (dk_at dksX8_comes_1 13 rfl rfl)
theorem dX8_comes_40 : decode cX8_comes 40 = .ok (.iconst 0, 1) := dk_3 (dk_at dksX8_comes_1 16 rfl rfl)
theorem dX8_comes_41 : decode cX8_comes 41 = .ok (.istore 4, 2) := dk_54 4 (dk_at dksX8_comes_1 17 rfl rfl)
theorem dX8_comes_43 : decode cX8_comes 43 = .ok (.iload 4, 2) := dk_21 4 (dk_at dksX8_comes_1 19 rfl rfl)
theorem dX8_comes_45 : decode cX8_comes 45 = .ok (.bipush 8, 2) := dk_16 8 (dk_at dksX8_comes_1 21 rfl rfl)
theorem dX8_comes_47 : decode cX8_comes 47 = .ok (.if_icmp .ge 30, 3) := dk_162 0 30 (dk_at dksX8_comes_2 0 rfl rfl)
theorem dX8_comes_50 : decode cX8_comes 50 = .ok (.aload_n 0, 1) := dk_42 (dk_at dksX8_comes_2 3 rfl rfl)
theorem dX8_comes_51 : decode cX8_comes 51 = .ok (.getfield 39, 3) := dk_180 0 39 (dk_at dksX8_comes_2 4 rfl rfl)
theorem dX8_comes_54 : decode cX8_comes 54 = .ok (.iload 4, 2) := dk_21 4 (dk_at dksX8_comes_2 7 rfl rfl)
theorem dX8_comes_56 : decode cX8_comes 56 = .ok (.iload_n 3, 1) := dk_29 (dk_at dksX8_comes_2 9 rfl rfl)
theorem dX8_comes_57 : decode cX8_comes 57 = .ok (.iadd, 1) := dk_96 (dk_at dksX8_comes_2 10 rfl rfl)
theorem dX8_comes_58 : decode cX8_comes 58 = .ok (.bipush 8, 2) := dk_16 8 (dk_at dksX8_comes_2 11 rfl rfl)
theorem dX8_comes_60 : decode cX8_comes 60 = .ok (.irem, 1) := dk_112 (dk_at dksX8_comes_2 13 rfl rfl)
theorem dX8_comes_61 : decode cX8_comes 61 = .ok (.aload_n 0, 1) := dk_42 (dk_at dksX8_comes_2 14 rfl rfl)
theorem dX8_comes_62 : decode cX8_comes 62 = .ok (.iload_n 1, 1) := dk_27 (dk_at dksX8_comes_2 15 rfl rfl)
theorem dX8_comes_63 : decode cX8_comes 63 = .ok (.iconst 5, 1) := dk_8 (dk_at dksX8_comes_2 16 rfl rfl)
theorem dX8_comes_64 : decode cX8_comes 64 = .ok (.iload 4, 2) := dk_21 4 (dk_at dksX8_comes_2 17 rfl rfl)
theorem dX8_comes_66 : decode cX8_comes 66 = .ok (.iadd, 1) := dk_96 (dk_at dksX8_comes_2 19 rfl rfl)
theorem dX8_comes_67 : decode cX8_comes 67 = .ok (.invokevirtual 384, 3) := dk_182 1 128 (dk_at dksX8_comes_2 20 rfl rfl)
theorem dX8_comes_70 : decode cX8_comes 70 = .ok (.iastore, 1) := dk_79 (dk_at dksX8_comes_2 23 rfl rfl)
theorem dX8_comes_71 : decode cX8_comes 71 = .ok (.iinc 4 1, 3) := dk_132 4 1 (dk_at dksX8_comes_3 0 rfl rfl)
theorem dX8_comes_74 : decode cX8_comes 74 = .ok (.goto (-31), 3) := dk_167 255 225 (dk_at dksX8_comes_3 3 rfl rfl)
theorem dX8_comes_77 : decode cX8_comes 77 = .ok (.return_, 1) := dk_177 (dk_at dksX8_comes_3 6 rfl rfl)
abbrev cX8_goes : ByteArray := prog_19_method_82_code
def yX8_goes : MethodName := ⟨RX8, "goes", "(II)V"⟩
def dkwX8_goes_4 : List UInt8 := [153, 0, 7, 5, 167, 0, 4, 4, 96, 184, 1, 131, 79, 177]
abbrev dktX8_goes_4 : List UInt8 := dkwX8_goes_4 ++ []
def dkwX8_goes_3 : List UInt8 := [167, 255, 224, 42, 180, 0, 13, 27, 3, 184, 0, 81, 16, 12, 42, 27, 3, 182, 1, 128, 42, 180, 1, 39]
abbrev dktX8_goes_3 : List UInt8 := dkwX8_goes_3 ++ dktX8_goes_4
def dkwX8_goes_2 : List UInt8 := [27, 8, 29, 96, 184, 0, 81, 42, 180, 0, 39, 29, 28, 96, 16, 8, 112, 46, 79, 132, 3, 1]
abbrev dktX8_goes_2 : List UInt8 := dkwX8_goes_2 ++ dktX8_goes_3
def dkwX8_goes_1 : List UInt8 := [180, 1, 27, 28, 100, 16, 8, 96, 16, 8, 112, 79, 3, 62, 29, 16, 8, 162, 0, 32, 42, 180, 0, 13]
abbrev dktX8_goes_1 : List UInt8 := dkwX8_goes_1 ++ dktX8_goes_2
def dkwX8_goes_0 : List UInt8 := [42, 180, 0, 13, 27, 4, 184, 0, 81, 42, 180, 1, 30, 79, 42, 180, 0, 13, 27, 6, 184, 0, 81, 42]
abbrev dktX8_goes_0 : List UInt8 := dkwX8_goes_0 ++ dktX8_goes_1
theorem dksX8_goes_0 : cX8_goes.data.toList.drop 0 = dktX8_goes_0 := by decide +kernel
theorem dksX8_goes_1 : cX8_goes.data.toList.drop 24 = dktX8_goes_1 := dk_seg dksX8_goes_0 24 rfl rfl
theorem dksX8_goes_2 : cX8_goes.data.toList.drop 48 = dktX8_goes_2 := dk_seg dksX8_goes_1 24 rfl rfl
theorem dksX8_goes_3 : cX8_goes.data.toList.drop 70 = dktX8_goes_3 := dk_seg dksX8_goes_2 22 rfl rfl
theorem dksX8_goes_4 : cX8_goes.data.toList.drop 94 = dktX8_goes_4 := dk_seg dksX8_goes_3 24 rfl rfl
theorem dX8_goes_0 : decode cX8_goes 0 = .ok (.aload_n 0, 1) := dk_42 (dk_at dksX8_goes_0 0 rfl rfl)
theorem dX8_goes_1 : decode cX8_goes 1 = .ok (.getfield 13, 3) := dk_180 0 13 (dk_at dksX8_goes_0 1 rfl rfl)
theorem dX8_goes_4 : decode cX8_goes 4 = .ok (.iload_n 1, 1) := dk_27 (dk_at dksX8_goes_0 4 rfl rfl)
theorem dX8_goes_5 : decode cX8_goes 5 = .ok (.iconst 1, 1) := dk_4 (dk_at dksX8_goes_0 5 rfl rfl)
theorem dX8_goes_6 : decode cX8_goes 6 = .ok (.invokestatic 81, 3) := dk_184 0 81 (dk_at dksX8_goes_0 6 rfl rfl)
theorem dX8_goes_9 : decode cX8_goes 9 = .ok (.aload_n 0, 1) := dk_42 (dk_at dksX8_goes_0 9 rfl rfl)
theorem dX8_goes_10 : decode cX8_goes 10 = .ok (.getfield 286, 3) := dk_180 1 30 (dk_at dksX8_goes_0 10 rfl rfl)
theorem dX8_goes_13 : decode cX8_goes 13 = .ok (.iastore, 1) := dk_79 (dk_at dksX8_goes_0 13 rfl rfl)
theorem dX8_goes_14 : decode cX8_goes 14 = .ok (.aload_n 0, 1) := dk_42 (dk_at dksX8_goes_0 14 rfl rfl)
theorem dX8_goes_15 : decode cX8_goes 15 = .ok (.getfield 13, 3) := dk_180 0 13 (dk_at dksX8_goes_0 15 rfl rfl)
theorem dX8_goes_18 : decode cX8_goes 18 = .ok (.iload_n 1, 1) := dk_27 (dk_at dksX8_goes_0 18 rfl rfl)
theorem dX8_goes_19 : decode cX8_goes 19 = .ok (.iconst 3, 1) := dk_6 (dk_at dksX8_goes_0 19 rfl rfl)
theorem dX8_goes_20 : decode cX8_goes 20 = .ok (.invokestatic 81, 3) := dk_184 0 81 (dk_at dksX8_goes_0 20 rfl rfl)
theorem dX8_goes_23 : decode cX8_goes 23 = .ok (.aload_n 0, 1) := dk_42 (dk_at dksX8_goes_0 23 rfl rfl)
theorem dX8_goes_24 : decode cX8_goes 24 = .ok (.getfield 283, 3) := dk_180 1 27 (dk_at dksX8_goes_1 0 rfl rfl)
theorem dX8_goes_27 : decode cX8_goes 27 = .ok (.iload_n 2, 1) := dk_28 (dk_at dksX8_goes_1 3 rfl rfl)
theorem dX8_goes_28 : decode cX8_goes 28 = .ok (.isub, 1) := dk_100 (dk_at dksX8_goes_1 4 rfl rfl)
theorem dX8_goes_29 : decode cX8_goes 29 = .ok (.bipush 8, 2) := dk_16 8 (dk_at dksX8_goes_1 5 rfl rfl)
theorem dX8_goes_31 : decode cX8_goes 31 = .ok (.iadd, 1) := dk_96 (dk_at dksX8_goes_1 7 rfl rfl)
theorem dX8_goes_32 : decode cX8_goes 32 = .ok (.bipush 8, 2) := dk_16 8 (dk_at dksX8_goes_1 8 rfl rfl)
theorem dX8_goes_34 : decode cX8_goes 34 = .ok (.irem, 1) := dk_112 (dk_at dksX8_goes_1 10 rfl rfl)
theorem dX8_goes_35 : decode cX8_goes 35 = .ok (.iastore, 1) := dk_79 (dk_at dksX8_goes_1 11 rfl rfl)
theorem dX8_goes_36 : decode cX8_goes 36 = .ok (.iconst 0, 1) := dk_3 (dk_at dksX8_goes_1 12 rfl rfl)
theorem dX8_goes_37 : decode cX8_goes 37 = .ok (.istore_n 3, 1) := dk_62 (dk_at dksX8_goes_1 13 rfl rfl)
theorem dX8_goes_38 : decode cX8_goes 38 = .ok (.iload_n 3, 1) := dk_29 (dk_at dksX8_goes_1 14 rfl rfl)
theorem dX8_goes_39 : decode cX8_goes 39 = .ok (.bipush 8, 2) := dk_16 8 (dk_at dksX8_goes_1 15 rfl rfl)
theorem dX8_goes_41 : decode cX8_goes 41 = .ok (.if_icmp .ge 32, 3) := dk_162 0 32 (dk_at dksX8_goes_1 17 rfl rfl)
theorem dX8_goes_44 : decode cX8_goes 44 = .ok (.aload_n 0, 1) := dk_42 (dk_at dksX8_goes_1 20 rfl rfl)
theorem dX8_goes_45 : decode cX8_goes 45 = .ok (.getfield 13, 3) := dk_180 0 13 (dk_at dksX8_goes_1 21 rfl rfl)
theorem dX8_goes_48 : decode cX8_goes 48 = .ok (.iload_n 1, 1) := dk_27 (dk_at dksX8_goes_2 0 rfl rfl)
theorem dX8_goes_49 : decode cX8_goes 49 = .ok (.iconst 5, 1) := dk_8 (dk_at dksX8_goes_2 1 rfl rfl)
theorem dX8_goes_50 : decode cX8_goes 50 = .ok (.iload_n 3, 1) := dk_29 (dk_at dksX8_goes_2 2 rfl rfl)
theorem dX8_goes_51 : decode cX8_goes 51 = .ok (.iadd, 1) := dk_96 (dk_at dksX8_goes_2 3 rfl rfl)
theorem dX8_goes_52 : decode cX8_goes 52 = .ok (.invokestatic 81, 3) := dk_184 0 81 (dk_at dksX8_goes_2 4 rfl rfl)
theorem dX8_goes_55 : decode cX8_goes 55 = .ok (.aload_n 0, 1) := dk_42 (dk_at dksX8_goes_2 7 rfl rfl)
theorem dX8_goes_56 : decode cX8_goes 56 = .ok (.getfield 39, 3) := dk_180 0 39 (dk_at dksX8_goes_2 8 rfl rfl)
theorem dX8_goes_59 : decode cX8_goes 59 = .ok (.iload_n 3, 1) := dk_29 (dk_at dksX8_goes_2 11 rfl rfl)
theorem dX8_goes_60 : decode cX8_goes 60 = .ok (.iload_n 2, 1) := dk_28 (dk_at dksX8_goes_2 12 rfl rfl)
theorem dX8_goes_61 : decode cX8_goes 61 = .ok (.iadd, 1) := dk_96 (dk_at dksX8_goes_2 13 rfl rfl)
theorem dX8_goes_62 : decode cX8_goes 62 = .ok (.bipush 8, 2) := dk_16 8 (dk_at dksX8_goes_2 14 rfl rfl)
theorem dX8_goes_64 : decode cX8_goes 64 = .ok (.irem, 1) := dk_112 (dk_at dksX8_goes_2 16 rfl rfl)
theorem dX8_goes_65 : decode cX8_goes 65 = .ok (.iaload, 1) := dk_46 (dk_at dksX8_goes_2 17 rfl rfl)
theorem dX8_goes_66 : decode cX8_goes 66 = .ok (.iastore, 1) := dk_79 (dk_at dksX8_goes_2 18 rfl rfl)
theorem dX8_goes_67 : decode cX8_goes 67 = .ok (.iinc 3 1, 3) := dk_132 3 1 (dk_at dksX8_goes_2 19 rfl rfl)
theorem dX8_goes_70 : decode cX8_goes 70 = .ok (.goto (-32), 3) := dk_167 255 224 (dk_at dksX8_goes_3 0 rfl rfl)
theorem dX8_goes_73 : decode cX8_goes 73 = .ok (.aload_n 0, 1) := dk_42 (dk_at dksX8_goes_3 3 rfl rfl)
theorem dX8_goes_74 : decode cX8_goes 74 = .ok (.getfield 13, 3) := dk_180 0 13 (dk_at dksX8_goes_3 4 rfl rfl)
theorem dX8_goes_77 : decode cX8_goes 77 = .ok (.iload_n 1, 1) := dk_27 (dk_at dksX8_goes_3 7 rfl rfl)
theorem dX8_goes_78 : decode cX8_goes 78 = .ok (.iconst 0, 1) := dk_3 (dk_at dksX8_goes_3 8 rfl rfl)
theorem dX8_goes_79 : decode cX8_goes 79 = .ok (.invokestatic 81, 3) := dk_184 0 81 (dk_at dksX8_goes_3 9 rfl rfl)
theorem dX8_goes_82 : decode cX8_goes 82 = .ok (.bipush 12, 2) := dk_16 12 (dk_at dksX8_goes_3 12 rfl rfl)
theorem dX8_goes_84 : decode cX8_goes 84 = .ok (.aload_n 0, 1) := dk_42 (dk_at dksX8_goes_3 14 rfl rfl)
theorem dX8_goes_85 : decode cX8_goes 85 = .ok (.iload_n 1, 1) := dk_27 (dk_at dksX8_goes_3 15 rfl rfl)
theorem dX8_goes_86 : decode cX8_goes 86 = .ok (.iconst 0, 1) := dk_3 (dk_at dksX8_goes_3 16 rfl rfl)
theorem dX8_goes_87 : decode cX8_goes 87 = .ok (.invokevirtual 384, 3) := dk_182 1 128 (dk_at dksX8_goes_3 17 rfl rfl)
theorem dX8_goes_90 : decode cX8_goes 90 = .ok (.aload_n 0, 1) := dk_42 (dk_at dksX8_goes_3 20 rfl rfl)
theorem dX8_goes_91 : decode cX8_goes 91 = .ok (.getfield 295, 3) := dk_180 1 39 (dk_at dksX8_goes_3 21 rfl rfl)
theorem dX8_goes_94 : decode cX8_goes 94 = .ok (.ifCond .eq 7, 3) := dk_153 0 7 (dk_at dksX8_goes_4 0 rfl rfl)
theorem dX8_goes_97 : decode cX8_goes 97 = .ok (.iconst 2, 1) := dk_5 (dk_at dksX8_goes_4 3 rfl rfl)
theorem dX8_goes_98 : decode cX8_goes 98 = .ok (.goto 4, 3) := dk_167 0 4 (dk_at dksX8_goes_4 4 rfl rfl)
theorem dX8_goes_101 : decode cX8_goes 101 = .ok (.iconst 1, 1) := dk_4 (dk_at dksX8_goes_4 7 rfl rfl)
theorem dX8_goes_102 : decode cX8_goes 102 = .ok (.iadd, 1) := dk_96 (dk_at dksX8_goes_4 8 rfl rfl)
theorem dX8_goes_103 : decode cX8_goes 103 = .ok (.invokestatic 387, 3) := dk_184 1 131 (dk_at dksX8_goes_4 9 rfl rfl)
theorem dX8_goes_106 : decode cX8_goes 106 = .ok (.iastore, 1) := dk_79 (dk_at dksX8_goes_4 12 rfl rfl)
theorem dX8_goes_107 : decode cX8_goes 107 = .ok (.return_, 1) := dk_177 (dk_at dksX8_goes_4 13 rfl rfl)
abbrev cX8_hostedSteps : ByteArray := prog_19_method_85_code
def yX8_hostedSteps : MethodName := ⟨RX8, "hostedSteps", "()I"⟩
def dkwX8_hostedSteps_8 : List UInt8 := [182, 1, 128, 29, 96, 16, 8, 112, 79, 28, 172]
abbrev dktX8_hostedSteps_8 : List UInt8 := dkwX8_hostedSteps_8 ++ []
def dkwX8_hostedSteps_7 : List UInt8 := [153, 0, 11, 29, 42, 27, 182, 1, 149, 96, 62, 42, 180, 0, 13, 4, 7, 184, 0, 81, 42, 4, 7]
abbrev dktX8_hostedSteps_7 : List UInt8 := dkwX8_hostedSteps_7 ++ dktX8_hostedSteps_8
def dkwX8_hostedSteps_6 : List UInt8 := [182, 1, 146, 42, 180, 1, 33, 4, 160, 0, 7, 5, 167, 0, 4, 2, 61, 28, 3, 4, 184, 0, 88]
abbrev dktX8_hostedSteps_6 : List UInt8 := dkwX8_hostedSteps_6 ++ dktX8_hostedSteps_7
def dkwX8_hostedSteps_5 : List UInt8 := [42, 180, 0, 13, 8, 46, 182, 1, 142, 42, 27, 182, 1, 69, 42, 4, 42, 180, 0, 13, 8, 46]
abbrev dktX8_hostedSteps_5 : List UInt8 := dkwX8_hostedSteps_5 ++ dktX8_hostedSteps_6
def dkwX8_hostedSteps_4 : List UInt8 := [4, 5, 184, 0, 81, 42, 180, 1, 33, 79, 42, 4, 3, 182, 1, 146, 4, 61, 167, 0, 45, 42, 4, 3]
abbrev dktX8_hostedSteps_4 : List UInt8 := dkwX8_hostedSteps_4 ++ dktX8_hostedSteps_5
def dkwX8_hostedSteps_3 : List UInt8 := [160, 0, 45, 42, 4, 42, 4, 5, 182, 1, 128, 3, 182, 1, 142, 42, 27, 182, 1, 69, 42, 180, 0, 13]
abbrev dktX8_hostedSteps_3 : List UInt8 := dkwX8_hostedSteps_3 ++ dktX8_hostedSteps_4
def dkwX8_hostedSteps_2 : List UInt8 := [3, 61, 167, 0, 107, 42, 27, 4, 182, 0, 78, 4, 159, 0, 13, 42, 27, 5, 182, 0, 78, 4]
abbrev dktX8_hostedSteps_2 : List UInt8 := dkwX8_hostedSteps_2 ++ dktX8_hostedSteps_3
def dkwX8_hostedSteps_1 : List UInt8 := [60, 2, 61, 4, 62, 42, 27, 42, 4, 5, 182, 1, 128, 182, 1, 62, 153, 0, 13, 42, 4, 182, 1, 139]
abbrev dktX8_hostedSteps_1 : List UInt8 := dkwX8_hostedSteps_1 ++ dktX8_hostedSteps_2
def dkwX8_hostedSteps_0 : List UInt8 := [42, 4, 182, 1, 136, 153, 0, 5, 2, 172, 42, 180, 0, 13, 16, 12, 42, 4, 3, 182, 1, 128, 96, 46]
abbrev dktX8_hostedSteps_0 : List UInt8 := dkwX8_hostedSteps_0 ++ dktX8_hostedSteps_1
theorem dksX8_hostedSteps_0 : cX8_hostedSteps.data.toList.drop 0 = dktX8_hostedSteps_0 := by decide +kernel
theorem dksX8_hostedSteps_1 : cX8_hostedSteps.data.toList.drop 24 = dktX8_hostedSteps_1 := dk_seg dksX8_hostedSteps_0 24 rfl rfl
theorem dksX8_hostedSteps_2 : cX8_hostedSteps.data.toList.drop 48 = dktX8_hostedSteps_2 := dk_seg dksX8_hostedSteps_1 24 rfl rfl
theorem dksX8_hostedSteps_3 : cX8_hostedSteps.data.toList.drop 70 = dktX8_hostedSteps_3 := dk_seg dksX8_hostedSteps_2 22 rfl rfl
theorem dksX8_hostedSteps_4 : cX8_hostedSteps.data.toList.drop 94 = dktX8_hostedSteps_4 := dk_seg dksX8_hostedSteps_3 24 rfl rfl
theorem dksX8_hostedSteps_5 : cX8_hostedSteps.data.toList.drop 118 = dktX8_hostedSteps_5 := dk_seg dksX8_hostedSteps_4 24 rfl rfl
theorem dksX8_hostedSteps_6 : cX8_hostedSteps.data.toList.drop 140 = dktX8_hostedSteps_6 := dk_seg dksX8_hostedSteps_5 22 rfl rfl
theorem dksX8_hostedSteps_7 : cX8_hostedSteps.data.toList.drop 163 = dktX8_hostedSteps_7 := dk_seg dksX8_hostedSteps_6 23 rfl rfl
theorem dksX8_hostedSteps_8 : cX8_hostedSteps.data.toList.drop 186 = dktX8_hostedSteps_8 := dk_seg dksX8_hostedSteps_7 23 rfl rfl
theorem dX8_hostedSteps_0 : decode cX8_hostedSteps 0 = .ok (.aload_n 0, 1) := dk_42 (dk_at dksX8_hostedSteps_0 0 rfl rfl)
theorem dX8_hostedSteps_1 : decode cX8_hostedSteps 1 = .ok (.iconst 1, 1) := dk_4 (dk_at dksX8_hostedSteps_0 1 rfl rfl)
theorem dX8_hostedSteps_2 : decode cX8_hostedSteps 2 = .ok (.invokevirtual 392, 3) := dk_182 1 136 (dk_at dksX8_hostedSteps_0 2 rfl rfl)
theorem dX8_hostedSteps_5 : decode cX8_hostedSteps 5 = .ok (.ifCond .eq 5, 3) := dk_153 0 5 (dk_at dksX8_hostedSteps_0 5 rfl rfl)
theorem dX8_hostedSteps_8 : decode cX8_hostedSteps 8 = .ok (.iconst (-1), 1) := dk_2 (dk_at dksX8_hostedSteps_0 8 rfl rfl)
theorem dX8_hostedSteps_9 : decode cX8_hostedSteps 9 = .ok (.ireturn, 1) := dk_172 (dk_at dksX8_hostedSteps_0 9 rfl rfl)
theorem dX8_hostedSteps_10 : decode cX8_hostedSteps 10 = .ok (.aload_n 0, 1) := dk_42 (dk_at dksX8_hostedSteps_0 10 rfl rfl)
theorem dX8_hostedSteps_11 : decode cX8_hostedSteps 11 = .ok (.getfield 13, 3) := dk_180 0 13 (dk_at dksX8_hostedSteps_0 11 rfl rfl)
theorem dX8_hostedSteps_14 : decode cX8_hostedSteps 14 = .ok (.bipush 12, 2) := dk_16 12 (dk_at dksX8_hostedSteps_0 14 rfl rfl)
theorem dX8_hostedSteps_16 : decode cX8_hostedSteps 16 = .ok (.aload_n 0, 1) := dk_42 (dk_at dksX8_hostedSteps_0 16 rfl rfl)
theorem dX8_hostedSteps_17 : decode cX8_hostedSteps 17 = .ok (.iconst 1, 1) := dk_4 (dk_at dksX8_hostedSteps_0 17 rfl rfl)
theorem dX8_hostedSteps_18 : decode cX8_hostedSteps 18 = .ok (.iconst 0, 1) := dk_3 (dk_at dksX8_hostedSteps_0 18 rfl rfl)
theorem dX8_hostedSteps_19 : decode cX8_hostedSteps 19 = .ok (.invokevirtual 384, 3) := dk_182 1 128 (dk_at dksX8_hostedSteps_0 19 rfl rfl)
theorem dX8_hostedSteps_22 : decode cX8_hostedSteps 22 = .ok (.iadd, 1) := dk_96 (dk_at dksX8_hostedSteps_0 22 rfl rfl)
theorem dX8_hostedSteps_23 : decode cX8_hostedSteps 23 = .ok (.iaload, 1) := dk_46 (dk_at dksX8_hostedSteps_0 23 rfl rfl)
theorem dX8_hostedSteps_24 : decode cX8_hostedSteps 24 = .ok (.istore_n 1, 1) := dk_60 (dk_at dksX8_hostedSteps_1 0 rfl rfl)
theorem dX8_hostedSteps_25 : decode cX8_hostedSteps 25 = .ok (.iconst (-1), 1) := dk_2 (dk_at dksX8_hostedSteps_1 1 rfl rfl)
theorem dX8_hostedSteps_26 : decode cX8_hostedSteps 26 = .ok (.istore_n 2, 1) := dk_61 (dk_at dksX8_hostedSteps_1 2 rfl rfl)
theorem dX8_hostedSteps_27 : decode cX8_hostedSteps 27 = .ok (.iconst 1, 1) := dk_4 (dk_at dksX8_hostedSteps_1 3 rfl rfl)
theorem dX8_hostedSteps_28 : decode cX8_hostedSteps 28 = .ok (.istore_n 3, 1) := dk_62 (dk_at dksX8_hostedSteps_1 4 rfl rfl)
theorem dX8_hostedSteps_29 : decode cX8_hostedSteps 29 = .ok (.aload_n 0, 1) := dk_42 (dk_at dksX8_hostedSteps_1 5 rfl rfl)
theorem dX8_hostedSteps_30 : decode cX8_hostedSteps 30 = .ok (.iload_n 1, 1) := dk_27 (dk_at dksX8_hostedSteps_1 6 rfl rfl)
theorem dX8_hostedSteps_31 : decode cX8_hostedSteps 31 = .ok (.aload_n 0, 1) := dk_42 (dk_at dksX8_hostedSteps_1 7 rfl rfl)
theorem dX8_hostedSteps_32 : decode cX8_hostedSteps 32 = .ok (.iconst 1, 1) := dk_4 (dk_at dksX8_hostedSteps_1 8 rfl rfl)
theorem dX8_hostedSteps_33 : decode cX8_hostedSteps 33 = .ok (.iconst 2, 1) := dk_5 (dk_at dksX8_hostedSteps_1 9 rfl rfl)
theorem dX8_hostedSteps_34 : decode cX8_hostedSteps 34 = .ok (.invokevirtual 384, 3) := dk_182 1 128 (dk_at dksX8_hostedSteps_1 10 rfl rfl)
theorem dX8_hostedSteps_37 : decode cX8_hostedSteps 37 = .ok (.invokevirtual 318, 3) := dk_182 1 62 (dk_at dksX8_hostedSteps_1 13 rfl rfl)
theorem dX8_hostedSteps_40 : decode cX8_hostedSteps 40 = .ok (.ifCond .eq 13, 3) := dk_153 0 13 (dk_at dksX8_hostedSteps_1 16 rfl rfl)
theorem dX8_hostedSteps_43 : decode cX8_hostedSteps 43 = .ok (.aload_n 0, 1) := dk_42 (dk_at dksX8_hostedSteps_1 19 rfl rfl)
theorem dX8_hostedSteps_44 : decode cX8_hostedSteps 44 = .ok (.iconst 1, 1) := dk_4 (dk_at dksX8_hostedSteps_1 20 rfl rfl)
theorem dX8_hostedSteps_45 : decode cX8_hostedSteps 45 = .ok (.invokevirtual 395, 3) := dk_182 1 139 (dk_at dksX8_hostedSteps_1 21 rfl rfl)
theorem dX8_hostedSteps_48 : decode cX8_hostedSteps 48 = .ok (.iconst 0, 1) := dk_3 (dk_at dksX8_hostedSteps_2 0 rfl rfl)
theorem dX8_hostedSteps_49 : decode cX8_hostedSteps 49 = .ok (.istore_n 2, 1) := dk_61 (dk_at dksX8_hostedSteps_2 1 rfl rfl)
theorem dX8_hostedSteps_50 : decode cX8_hostedSteps 50 = .ok (.goto 107, 3) := dk_167 0 107 (dk_at dksX8_hostedSteps_2 2 rfl rfl)
theorem dX8_hostedSteps_53 : decode cX8_hostedSteps 53 = .ok (.aload_n 0, 1) := dk_42 (dk_at dksX8_hostedSteps_2 5 rfl rfl)
theorem dX8_hostedSteps_54 : decode cX8_hostedSteps 54 = .ok (.iload_n 1, 1) := dk_27 (dk_at dksX8_hostedSteps_2 6 rfl rfl)
theorem dX8_hostedSteps_55 : decode cX8_hostedSteps 55 = .ok (.iconst 1, 1) := dk_4 (dk_at dksX8_hostedSteps_2 7 rfl rfl)
theorem dX8_hostedSteps_56 : decode cX8_hostedSteps 56 = .ok (.invokevirtual 78, 3) := dk_182 0 78 (dk_at dksX8_hostedSteps_2 8 rfl rfl)
theorem dX8_hostedSteps_59 : decode cX8_hostedSteps 59 = .ok (.iconst 1, 1) := dk_4 (dk_at dksX8_hostedSteps_2 11 rfl rfl)
theorem dX8_hostedSteps_60 : decode cX8_hostedSteps 60 = .ok (.if_icmp .eq 13, 3) := dk_159 0 13 (dk_at dksX8_hostedSteps_2 12 rfl rfl)
theorem dX8_hostedSteps_63 : decode cX8_hostedSteps 63 = .ok (.aload_n 0, 1) := dk_42 (dk_at dksX8_hostedSteps_2 15 rfl rfl)
theorem dX8_hostedSteps_64 : decode cX8_hostedSteps 64 = .ok (.iload_n 1, 1) := dk_27 (dk_at dksX8_hostedSteps_2 16 rfl rfl)
theorem dX8_hostedSteps_65 : decode cX8_hostedSteps 65 = .ok (.iconst 2, 1) := dk_5 (dk_at dksX8_hostedSteps_2 17 rfl rfl)
theorem dX8_hostedSteps_66 : decode cX8_hostedSteps 66 = .ok (.invokevirtual 78, 3) := dk_182 0 78 (dk_at dksX8_hostedSteps_2 18 rfl rfl)
theorem dX8_hostedSteps_69 : decode cX8_hostedSteps 69 = .ok (.iconst 1, 1) := dk_4 (dk_at dksX8_hostedSteps_2 21 rfl rfl)
theorem dX8_hostedSteps_70 : decode cX8_hostedSteps 70 = .ok (.if_icmp .ne 45, 3) := dk_160 0 45 (dk_at dksX8_hostedSteps_3 0 rfl rfl)
theorem dX8_hostedSteps_73 : decode cX8_hostedSteps 73 = .ok (.aload_n 0, 1) := dk_42 (dk_at dksX8_hostedSteps_3 3 rfl rfl)
theorem dX8_hostedSteps_74 : decode cX8_hostedSteps 74 = .ok (.iconst 1, 1) := dk_4 (dk_at dksX8_hostedSteps_3 4 rfl rfl)
theorem dX8_hostedSteps_75 : decode cX8_hostedSteps 75 = .ok (.aload_n 0, 1) := dk_42 (dk_at dksX8_hostedSteps_3 5 rfl rfl)
theorem dX8_hostedSteps_76 : decode cX8_hostedSteps 76 = .ok (.iconst 1, 1) := dk_4 (dk_at dksX8_hostedSteps_3 6 rfl rfl)
theorem dX8_hostedSteps_77 : decode cX8_hostedSteps 77 = .ok (.iconst 2, 1) := dk_5 (dk_at dksX8_hostedSteps_3 7 rfl rfl)
theorem dX8_hostedSteps_78 : decode cX8_hostedSteps 78 = .ok (.invokevirtual 384, 3) := dk_182 1 128 (dk_at dksX8_hostedSteps_3 8 rfl rfl)
theorem dX8_hostedSteps_81 : decode cX8_hostedSteps 81 = .ok (.iconst 0, 1) := dk_3 (dk_at dksX8_hostedSteps_3 11 rfl rfl)
theorem dX8_hostedSteps_82 : decode cX8_hostedSteps 82 = .ok (.invokevirtual 398, 3) := dk_182 1 142 (dk_at dksX8_hostedSteps_3 12 rfl rfl)
theorem dX8_hostedSteps_85 : decode cX8_hostedSteps 85 = .ok (.aload_n 0, 1) := dk_42 (dk_at dksX8_hostedSteps_3 15 rfl rfl)
theorem dX8_hostedSteps_86 : decode cX8_hostedSteps 86 = .ok (.iload_n 1, 1) := dk_27 (dk_at dksX8_hostedSteps_3 16 rfl rfl)
theorem dX8_hostedSteps_87 : decode cX8_hostedSteps 87 = .ok (.invokevirtual 325, 3) := dk_182 1 69 (dk_at dksX8_hostedSteps_3 17 rfl rfl)
theorem dX8_hostedSteps_90 : decode cX8_hostedSteps 90 = .ok (.aload_n 0, 1) := dk_42 (dk_at dksX8_hostedSteps_3 20 rfl rfl)
theorem dX8_hostedSteps_91 : decode cX8_hostedSteps 91 = .ok (.getfield 13, 3) := dk_180 0 13 (dk_at dksX8_hostedSteps_3 21 rfl rfl)
theorem dX8_hostedSteps_94 : decode cX8_hostedSteps 94 = .ok (.iconst 1, 1) := dk_4 (dk_at dksX8_hostedSteps_4 0 rfl rfl)
theorem dX8_hostedSteps_95 : decode cX8_hostedSteps 95 = .ok (.iconst 2, 1) := dk_5 (dk_at dksX8_hostedSteps_4 1 rfl rfl)
theorem dX8_hostedSteps_96 : decode cX8_hostedSteps 96 = .ok (.invokestatic 81, 3) := dk_184 0 81 (dk_at dksX8_hostedSteps_4 2 rfl rfl)
theorem dX8_hostedSteps_99 : decode cX8_hostedSteps 99 = .ok (.aload_n 0, 1) := dk_42 (dk_at dksX8_hostedSteps_4 5 rfl rfl)
theorem dX8_hostedSteps_100 : decode cX8_hostedSteps 100 = .ok (.getfield 289, 3) := dk_180 1 33 (dk_at dksX8_hostedSteps_4 6 rfl rfl)
theorem dX8_hostedSteps_103 : decode cX8_hostedSteps 103 = .ok (.iastore, 1) := dk_79 (dk_at dksX8_hostedSteps_4 9 rfl rfl)
theorem dX8_hostedSteps_104 : decode cX8_hostedSteps 104 = .ok (.aload_n 0, 1) := dk_42 (dk_at dksX8_hostedSteps_4 10 rfl rfl)
theorem dX8_hostedSteps_105 : decode cX8_hostedSteps 105 = .ok (.iconst 1, 1) := dk_4 (dk_at dksX8_hostedSteps_4 11 rfl rfl)
theorem dX8_hostedSteps_106 : decode cX8_hostedSteps 106 = .ok (.iconst 0, 1) := dk_3 (dk_at dksX8_hostedSteps_4 12 rfl rfl)
theorem dX8_hostedSteps_107 : decode cX8_hostedSteps 107 = .ok (.invokevirtual 402, 3) := dk_182 1 146 (dk_at dksX8_hostedSteps_4 13 rfl rfl)
theorem dX8_hostedSteps_110 : decode cX8_hostedSteps 110 = .ok (.iconst 1, 1) := dk_4 (dk_at dksX8_hostedSteps_4 16 rfl rfl)
theorem dX8_hostedSteps_111 : decode cX8_hostedSteps 111 = .ok (.istore_n 2, 1) := dk_61 (dk_at dksX8_hostedSteps_4 17 rfl rfl)
theorem dX8_hostedSteps_112 : decode cX8_hostedSteps 112 = .ok (.goto 45, 3) := dk_167 0 45 (dk_at dksX8_hostedSteps_4 18 rfl rfl)
theorem dX8_hostedSteps_115 : decode cX8_hostedSteps 115 = .ok (.aload_n 0, 1) := dk_42 (dk_at dksX8_hostedSteps_4 21 rfl rfl)
theorem dX8_hostedSteps_116 : decode cX8_hostedSteps 116 = .ok (.iconst 1, 1) := dk_4 (dk_at dksX8_hostedSteps_4 22 rfl rfl)
theorem dX8_hostedSteps_117 : decode cX8_hostedSteps 117 = .ok (.iconst 0, 1) := dk_3 (dk_at dksX8_hostedSteps_4 23 rfl rfl)
theorem dX8_hostedSteps_118 : decode cX8_hostedSteps 118 = .ok (.aload_n 0, 1) := dk_42 (dk_at dksX8_hostedSteps_5 0 rfl rfl)
theorem dX8_hostedSteps_119 : decode cX8_hostedSteps 119 = .ok (.getfield 13, 3) := dk_180 0 13 (dk_at dksX8_hostedSteps_5 1 rfl rfl)
theorem dX8_hostedSteps_122 : decode cX8_hostedSteps 122 = .ok (.iconst 5, 1) := dk_8 (dk_at dksX8_hostedSteps_5 4 rfl rfl)
theorem dX8_hostedSteps_123 : decode cX8_hostedSteps 123 = .ok (.iaload, 1) := dk_46 (dk_at dksX8_hostedSteps_5 5 rfl rfl)
theorem dX8_hostedSteps_124 : decode cX8_hostedSteps 124 = .ok (.invokevirtual 398, 3) := dk_182 1 142 (dk_at dksX8_hostedSteps_5 6 rfl rfl)
theorem dX8_hostedSteps_127 : decode cX8_hostedSteps 127 = .ok (.aload_n 0, 1) := dk_42 (dk_at dksX8_hostedSteps_5 9 rfl rfl)
theorem dX8_hostedSteps_128 : decode cX8_hostedSteps 128 = .ok (.iload_n 1, 1) := dk_27 (dk_at dksX8_hostedSteps_5 10 rfl rfl)
theorem dX8_hostedSteps_129 : decode cX8_hostedSteps 129 = .ok (.invokevirtual 325, 3) := dk_182 1 69 (dk_at dksX8_hostedSteps_5 11 rfl rfl)
theorem dX8_hostedSteps_132 : decode cX8_hostedSteps 132 = .ok (.aload_n 0, 1) := dk_42 (dk_at dksX8_hostedSteps_5 14 rfl rfl)
theorem dX8_hostedSteps_133 : decode cX8_hostedSteps 133 = .ok (.iconst 1, 1) := dk_4 (dk_at dksX8_hostedSteps_5 15 rfl rfl)
theorem dX8_hostedSteps_134 : decode cX8_hostedSteps 134 = .ok (.aload_n 0, 1) := dk_42 (dk_at dksX8_hostedSteps_5 16 rfl rfl)
theorem dX8_hostedSteps_135 : decode cX8_hostedSteps 135 = .ok (.getfield 13, 3) := dk_180 0 13 (dk_at dksX8_hostedSteps_5 17 rfl rfl)
theorem dX8_hostedSteps_138 : decode cX8_hostedSteps 138 = .ok (.iconst 5, 1) := dk_8 (dk_at dksX8_hostedSteps_5 20 rfl rfl)
theorem dX8_hostedSteps_139 : decode cX8_hostedSteps 139 = .ok (.iaload, 1) := dk_46 (dk_at dksX8_hostedSteps_5 21 rfl rfl)
theorem dX8_hostedSteps_140 : decode cX8_hostedSteps 140 = .ok (.invokevirtual 402, 3) := dk_182 1 146 (dk_at dksX8_hostedSteps_6 0 rfl rfl)
theorem dX8_hostedSteps_143 : decode cX8_hostedSteps 143 = .ok (.aload_n 0, 1) := dk_42 (dk_at dksX8_hostedSteps_6 3 rfl rfl)
theorem dX8_hostedSteps_144 : decode cX8_hostedSteps 144 = .ok (.getfield 289, 3) := dk_180 1 33 (dk_at dksX8_hostedSteps_6 4 rfl rfl)
theorem dX8_hostedSteps_147 : decode cX8_hostedSteps 147 = .ok (.iconst 1, 1) := dk_4 (dk_at dksX8_hostedSteps_6 7 rfl rfl)
theorem dX8_hostedSteps_148 : decode cX8_hostedSteps 148 = .ok (.if_icmp .ne 7, 3) := dk_160 0 7 (dk_at dksX8_hostedSteps_6 8 rfl rfl)
theorem dX8_hostedSteps_151 : decode cX8_hostedSteps 151 = .ok (.iconst 2, 1) := dk_5 (dk_at dksX8_hostedSteps_6 11 rfl rfl)
theorem dX8_hostedSteps_152 : decode cX8_hostedSteps 152 = .ok (.goto 4, 3) := dk_167 0 4 (dk_at dksX8_hostedSteps_6 12 rfl rfl)
theorem dX8_hostedSteps_155 : decode cX8_hostedSteps 155 = .ok (.iconst (-1), 1) := dk_2 (dk_at dksX8_hostedSteps_6 15 rfl rfl)
theorem dX8_hostedSteps_156 : decode cX8_hostedSteps 156 = .ok (.istore_n 2, 1) := dk_61 (dk_at dksX8_hostedSteps_6 16 rfl rfl)
theorem dX8_hostedSteps_157 : decode cX8_hostedSteps 157 = .ok (.iload_n 2, 1) := dk_28 (dk_at dksX8_hostedSteps_6 17 rfl rfl)
theorem dX8_hostedSteps_158 : decode cX8_hostedSteps 158 = .ok (.iconst 0, 1) := dk_3 (dk_at dksX8_hostedSteps_6 18 rfl rfl)
theorem dX8_hostedSteps_159 : decode cX8_hostedSteps 159 = .ok (.iconst 1, 1) := dk_4 (dk_at dksX8_hostedSteps_6 19 rfl rfl)
theorem dX8_hostedSteps_160 : decode cX8_hostedSteps 160 = .ok (.invokestatic 88, 3) := dk_184 0 88 (dk_at dksX8_hostedSteps_6 20 rfl rfl)
theorem dX8_hostedSteps_163 : decode cX8_hostedSteps 163 = .ok (.ifCond .eq 11, 3) := dk_153 0 11 (dk_at dksX8_hostedSteps_7 0 rfl rfl)
theorem dX8_hostedSteps_166 : decode cX8_hostedSteps 166 = .ok (.iload_n 3, 1) := dk_29 (dk_at dksX8_hostedSteps_7 3 rfl rfl)
theorem dX8_hostedSteps_167 : decode cX8_hostedSteps 167 = .ok (.aload_n 0, 1) := dk_42 (dk_at dksX8_hostedSteps_7 4 rfl rfl)
theorem dX8_hostedSteps_168 : decode cX8_hostedSteps 168 = .ok (.iload_n 1, 1) := dk_27 (dk_at dksX8_hostedSteps_7 5 rfl rfl)
theorem dX8_hostedSteps_169 : decode cX8_hostedSteps 169 = .ok (.invokevirtual 405, 3) := dk_182 1 149 (dk_at dksX8_hostedSteps_7 6 rfl rfl)
theorem dX8_hostedSteps_172 : decode cX8_hostedSteps 172 = .ok (.iadd, 1) := dk_96 (dk_at dksX8_hostedSteps_7 9 rfl rfl)
theorem dX8_hostedSteps_173 : decode cX8_hostedSteps 173 = .ok (.istore_n 3, 1) := dk_62 (dk_at dksX8_hostedSteps_7 10 rfl rfl)
theorem dX8_hostedSteps_174 : decode cX8_hostedSteps 174 = .ok (.aload_n 0, 1) := dk_42 (dk_at dksX8_hostedSteps_7 11 rfl rfl)
theorem dX8_hostedSteps_175 : decode cX8_hostedSteps 175 = .ok (.getfield 13, 3) := dk_180 0 13 (dk_at dksX8_hostedSteps_7 12 rfl rfl)
theorem dX8_hostedSteps_178 : decode cX8_hostedSteps 178 = .ok (.iconst 1, 1) := dk_4 (dk_at dksX8_hostedSteps_7 15 rfl rfl)
theorem dX8_hostedSteps_179 : decode cX8_hostedSteps 179 = .ok (.iconst 4, 1) := dk_7 (dk_at dksX8_hostedSteps_7 16 rfl rfl)
theorem dX8_hostedSteps_180 : decode cX8_hostedSteps 180 = .ok (.invokestatic 81, 3) := dk_184 0 81 (dk_at dksX8_hostedSteps_7 17 rfl rfl)
theorem dX8_hostedSteps_183 : decode cX8_hostedSteps 183 = .ok (.aload_n 0, 1) := dk_42 (dk_at dksX8_hostedSteps_7 20 rfl rfl)
theorem dX8_hostedSteps_184 : decode cX8_hostedSteps 184 = .ok (.iconst 1, 1) := dk_4 (dk_at dksX8_hostedSteps_7 21 rfl rfl)
theorem dX8_hostedSteps_185 : decode cX8_hostedSteps 185 = .ok (.iconst 4, 1) := dk_7 (dk_at dksX8_hostedSteps_7 22 rfl rfl)
theorem dX8_hostedSteps_186 : decode cX8_hostedSteps 186 = .ok (.invokevirtual 384, 3) := dk_182 1 128 (dk_at dksX8_hostedSteps_8 0 rfl rfl)
theorem dX8_hostedSteps_189 : decode cX8_hostedSteps 189 = .ok (.iload_n 3, 1) := dk_29 (dk_at dksX8_hostedSteps_8 3 rfl rfl)
theorem dX8_hostedSteps_190 : decode cX8_hostedSteps 190 = .ok (.iadd, 1) := dk_96 (dk_at dksX8_hostedSteps_8 4 rfl rfl)
theorem dX8_hostedSteps_191 : decode cX8_hostedSteps 191 = .ok (.bipush 8, 2) := dk_16 8 (dk_at dksX8_hostedSteps_8 5 rfl rfl)
theorem dX8_hostedSteps_193 : decode cX8_hostedSteps 193 = .ok (.irem, 1) := dk_112 (dk_at dksX8_hostedSteps_8 7 rfl rfl)
theorem dX8_hostedSteps_194 : decode cX8_hostedSteps 194 = .ok (.iastore, 1) := dk_79 (dk_at dksX8_hostedSteps_8 8 rfl rfl)
theorem dX8_hostedSteps_195 : decode cX8_hostedSteps 195 = .ok (.iload_n 2, 1) := dk_28 (dk_at dksX8_hostedSteps_8 9 rfl rfl)
theorem dX8_hostedSteps_196 : decode cX8_hostedSteps 196 = .ok (.ireturn, 1) := dk_172 (dk_at dksX8_hostedSteps_8 10 rfl rfl)
abbrev cX8_boot : ByteArray := prog_19_method_99_code
def yX8_boot : MethodName := ⟨RX8, "boot", "()V"⟩
def dkwX8_boot_0 : List UInt8 := [42, 3, 181, 0, 3, 42, 182, 1, 183, 42, 182, 0, 64, 177]
abbrev dktX8_boot_0 : List UInt8 := dkwX8_boot_0 ++ []
theorem dksX8_boot_0 : cX8_boot.data.toList.drop 0 = dktX8_boot_0 := by decide +kernel
theorem dX8_boot_0 : decode cX8_boot 0 = .ok (.aload_n 0, 1) := dk_42 (dk_at dksX8_boot_0 0 rfl rfl)
theorem dX8_boot_1 : decode cX8_boot 1 = .ok (.iconst 0, 1) := dk_3 (dk_at dksX8_boot_0 1 rfl rfl)
theorem dX8_boot_2 : decode cX8_boot 2 = .ok (.putfield 3, 3) := dk_181 0 3 (dk_at dksX8_boot_0 2 rfl rfl)
theorem dX8_boot_5 : decode cX8_boot 5 = .ok (.aload_n 0, 1) := dk_42 (dk_at dksX8_boot_0 5 rfl rfl)
theorem dX8_boot_6 : decode cX8_boot 6 = .ok (.invokevirtual 439, 3) := dk_182 1 183 (dk_at dksX8_boot_0 6 rfl rfl)
theorem dX8_boot_9 : decode cX8_boot 9 = .ok (.aload_n 0, 1) := dk_42 (dk_at dksX8_boot_0 9 rfl rfl)
theorem dX8_boot_10 : decode cX8_boot 10 = .ok (.invokevirtual 64, 3) := dk_182 0 64 (dk_at dksX8_boot_0 10 rfl rfl)
theorem dX8_boot_13 : decode cX8_boot 13 = .ok (.return_, 1) := dk_177 (dk_at dksX8_boot_0 13 rfl rfl)
abbrev cX8_patch : ByteArray := prog_19_method_102_code
def yX8_patch : MethodName := ⟨RX8, "patch", "(IZ)Z"⟩
def dkwX8_patch_0 : List UInt8 := [42, 27, 5, 28, 182, 1, 193, 172]
abbrev dktX8_patch_0 : List UInt8 := dkwX8_patch_0 ++ []
theorem dksX8_patch_0 : cX8_patch.data.toList.drop 0 = dktX8_patch_0 := by decide +kernel
theorem dX8_patch_0 : decode cX8_patch 0 = .ok (.aload_n 0, 1) := dk_42 (dk_at dksX8_patch_0 0 rfl rfl)
theorem dX8_patch_1 : decode cX8_patch 1 = .ok (.iload_n 1, 1) := dk_27 (dk_at dksX8_patch_0 1 rfl rfl)
theorem dX8_patch_2 : decode cX8_patch 2 = .ok (.iconst 2, 1) := dk_5 (dk_at dksX8_patch_0 2 rfl rfl)
theorem dX8_patch_3 : decode cX8_patch 3 = .ok (.iload_n 2, 1) := dk_28 (dk_at dksX8_patch_0 3 rfl rfl)
theorem dX8_patch_4 : decode cX8_patch 4 = .ok (.invokevirtual 449, 3) := dk_182 1 193 (dk_at dksX8_patch_0 4 rfl rfl)
theorem dX8_patch_7 : decode cX8_patch 7 = .ok (.ireturn, 1) := dk_172 (dk_at dksX8_patch_0 7 rfl rfl)
abbrev cX8_isSet : ByteArray := prog_19_method_101_code
def yX8_isSet : MethodName := ⟨RX8, "isSet", "(IIZ)Z"⟩
def dkwX8_isSet_2 : List UInt8 := [167, 0, 4, 3, 172]
abbrev dktX8_isSet_2 : List UInt8 := dkwX8_isSet_2 ++ []
def dkwX8_isSet_1 : List UInt8 := [182, 1, 24, 154, 0, 23, 42, 27, 28, 184, 0, 74, 21, 4, 182, 1, 190, 21, 4, 159, 0, 7, 4]
abbrev dktX8_isSet_1 : List UInt8 := dkwX8_isSet_1 ++ dktX8_isSet_2
def dkwX8_isSet_0 : List UInt8 := [42, 3, 181, 0, 3, 29, 153, 0, 7, 4, 167, 0, 4, 3, 54, 4, 42, 42, 27, 182, 1, 177, 4]
abbrev dktX8_isSet_0 : List UInt8 := dkwX8_isSet_0 ++ dktX8_isSet_1
theorem dksX8_isSet_0 : cX8_isSet.data.toList.drop 0 = dktX8_isSet_0 := by decide +kernel
theorem dksX8_isSet_1 : cX8_isSet.data.toList.drop 23 = dktX8_isSet_1 := dk_seg dksX8_isSet_0 23 rfl rfl
theorem dksX8_isSet_2 : cX8_isSet.data.toList.drop 46 = dktX8_isSet_2 := dk_seg dksX8_isSet_1 23 rfl rfl
theorem dX8_isSet_0 : decode cX8_isSet 0 = .ok (.aload_n 0, 1) := dk_42 (dk_at dksX8_isSet_0 0 rfl rfl)
theorem dX8_isSet_1 : decode cX8_isSet 1 = .ok (.iconst 0, 1) := dk_3 (dk_at dksX8_isSet_0 1 rfl rfl)
theorem dX8_isSet_2 : decode cX8_isSet 2 = .ok (.putfield 3, 3) := dk_181 0 3 (dk_at dksX8_isSet_0 2 rfl rfl)
theorem dX8_isSet_5 : decode cX8_isSet 5 = .ok (.iload_n 3, 1) := dk_29 (dk_at dksX8_isSet_0 5 rfl rfl)
theorem dX8_isSet_6 : decode cX8_isSet 6 = .ok (.ifCond .eq 7, 3) := dk_153 0 7 (dk_at dksX8_isSet_0 6 rfl rfl)
theorem dX8_isSet_9 : decode cX8_isSet 9 = .ok (.iconst 1, 1) := dk_4 (dk_at dksX8_isSet_0 9 rfl rfl)
theorem dX8_isSet_10 : decode cX8_isSet 10 = .ok (.goto 4, 3) := dk_167 0 4 (dk_at dksX8_isSet_0 10 rfl rfl)
theorem dX8_isSet_13 : decode cX8_isSet 13 = .ok (.iconst 0, 1) := dk_3 (dk_at dksX8_isSet_0 13 rfl rfl)
theorem dX8_isSet_14 : decode cX8_isSet 14 = .ok (.istore 4, 2) := dk_54 4 (dk_at dksX8_isSet_0 14 rfl rfl)
theorem dX8_isSet_16 : decode cX8_isSet 16 = .ok (.aload_n 0, 1) := dk_42 (dk_at dksX8_isSet_0 16 rfl rfl)
theorem dX8_isSet_17 : decode cX8_isSet 17 = .ok (.aload_n 0, 1) := dk_42 (dk_at dksX8_isSet_0 17 rfl rfl)
theorem dX8_isSet_18 : decode cX8_isSet 18 = .ok (.iload_n 1, 1) := dk_27 (dk_at dksX8_isSet_0 18 rfl rfl)
theorem dX8_isSet_19 : decode cX8_isSet 19 = .ok (.invokevirtual 433, 3) := dk_182 1 177 (dk_at dksX8_isSet_0 19 rfl rfl)
theorem dX8_isSet_22 : decode cX8_isSet 22 = .ok (.iconst 1, 1) := dk_4 (dk_at dksX8_isSet_0 22 rfl rfl)
theorem dX8_isSet_23 : decode cX8_isSet 23 = .ok (.invokevirtual 280, 3) := dk_182 1 24 (dk_at dksX8_isSet_1 0 rfl rfl)
theorem dX8_isSet_26 : decode cX8_isSet 26 = .ok (.ifCond .ne 23, 3) := dk_154 0 23 (dk_at dksX8_isSet_1 3 rfl rfl)
theorem dX8_isSet_29 : decode cX8_isSet 29 = .ok (.aload_n 0, 1) := dk_42 (dk_at dksX8_isSet_1 6 rfl rfl)
theorem dX8_isSet_30 : decode cX8_isSet 30 = .ok (.iload_n 1, 1) := dk_27 (dk_at dksX8_isSet_1 7 rfl rfl)
theorem dX8_isSet_31 : decode cX8_isSet 31 = .ok (.iload_n 2, 1) := dk_28 (dk_at dksX8_isSet_1 8 rfl rfl)
theorem dX8_isSet_32 : decode cX8_isSet 32 = .ok (.invokestatic 74, 3) := dk_184 0 74 (dk_at dksX8_isSet_1 9 rfl rfl)
theorem dX8_isSet_35 : decode cX8_isSet 35 = .ok (.iload 4, 2) := dk_21 4 (dk_at dksX8_isSet_1 12 rfl rfl)
theorem dX8_isSet_37 : decode cX8_isSet 37 = .ok (.invokevirtual 446, 3) := dk_182 1 190 (dk_at dksX8_isSet_1 14 rfl rfl)
theorem dX8_isSet_40 : decode cX8_isSet 40 = .ok (.iload 4, 2) := dk_21 4 (dk_at dksX8_isSet_1 17 rfl rfl)
theorem dX8_isSet_42 : decode cX8_isSet 42 = .ok (.if_icmp .eq 7, 3) := dk_159 0 7 (dk_at dksX8_isSet_1 19 rfl rfl)
theorem dX8_isSet_45 : decode cX8_isSet 45 = .ok (.iconst 1, 1) := dk_4 (dk_at dksX8_isSet_1 22 rfl rfl)
theorem dX8_isSet_46 : decode cX8_isSet 46 = .ok (.goto 4, 3) := dk_167 0 4 (dk_at dksX8_isSet_2 0 rfl rfl)
theorem dX8_isSet_49 : decode cX8_isSet 49 = .ok (.iconst 0, 1) := dk_3 (dk_at dksX8_isSet_2 3 rfl rfl)
theorem dX8_isSet_50 : decode cX8_isSet 50 = .ok (.ireturn, 1) := dk_172 (dk_at dksX8_isSet_2 4 rfl rfl)
abbrev cX8_isTuned : ByteArray := prog_19_method_100_code
def yX8_isTuned : MethodName := ⟨RX8, "isTuned", "(II)I"⟩
def dkwX8_isTuned_0 : List UInt8 := [42, 182, 1, 183, 42, 180, 0, 13, 27, 46, 62, 42, 180, 0, 13, 27, 28, 79, 42, 182, 0, 64, 29, 172]
abbrev dktX8_isTuned_0 : List UInt8 := dkwX8_isTuned_0 ++ []
theorem dksX8_isTuned_0 : cX8_isTuned.data.toList.drop 0 = dktX8_isTuned_0 := by decide +kernel
theorem dX8_isTuned_0 : decode cX8_isTuned 0 = .ok (.aload_n 0, 1) := dk_42 (dk_at dksX8_isTuned_0 0 rfl rfl)
theorem dX8_isTuned_1 : decode cX8_isTuned 1 = .ok (.invokevirtual 439, 3) := dk_182 1 183 (dk_at dksX8_isTuned_0 1 rfl rfl)
theorem dX8_isTuned_4 : decode cX8_isTuned 4 = .ok (.aload_n 0, 1) := dk_42 (dk_at dksX8_isTuned_0 4 rfl rfl)
theorem dX8_isTuned_5 : decode cX8_isTuned 5 = .ok (.getfield 13, 3) := dk_180 0 13 (dk_at dksX8_isTuned_0 5 rfl rfl)
theorem dX8_isTuned_8 : decode cX8_isTuned 8 = .ok (.iload_n 1, 1) := dk_27 (dk_at dksX8_isTuned_0 8 rfl rfl)
theorem dX8_isTuned_9 : decode cX8_isTuned 9 = .ok (.iaload, 1) := dk_46 (dk_at dksX8_isTuned_0 9 rfl rfl)
theorem dX8_isTuned_10 : decode cX8_isTuned 10 = .ok (.istore_n 3, 1) := dk_62 (dk_at dksX8_isTuned_0 10 rfl rfl)
theorem dX8_isTuned_11 : decode cX8_isTuned 11 = .ok (.aload_n 0, 1) := dk_42 (dk_at dksX8_isTuned_0 11 rfl rfl)
theorem dX8_isTuned_12 : decode cX8_isTuned 12 = .ok (.getfield 13, 3) := dk_180 0 13 (dk_at dksX8_isTuned_0 12 rfl rfl)
theorem dX8_isTuned_15 : decode cX8_isTuned 15 = .ok (.iload_n 1, 1) := dk_27 (dk_at dksX8_isTuned_0 15 rfl rfl)
theorem dX8_isTuned_16 : decode cX8_isTuned 16 = .ok (.iload_n 2, 1) := dk_28 (dk_at dksX8_isTuned_0 16 rfl rfl)
theorem dX8_isTuned_17 : decode cX8_isTuned 17 = .ok (.iastore, 1) := dk_79 (dk_at dksX8_isTuned_0 17 rfl rfl)
theorem dX8_isTuned_18 : decode cX8_isTuned 18 = .ok (.aload_n 0, 1) := dk_42 (dk_at dksX8_isTuned_0 18 rfl rfl)
theorem dX8_isTuned_19 : decode cX8_isTuned 19 = .ok (.invokevirtual 64, 3) := dk_182 0 64 (dk_at dksX8_isTuned_0 19 rfl rfl)
theorem dX8_isTuned_22 : decode cX8_isTuned 22 = .ok (.iload_n 3, 1) := dk_29 (dk_at dksX8_isTuned_0 22 rfl rfl)
theorem dX8_isTuned_23 : decode cX8_isTuned 23 = .ok (.ireturn, 1) := dk_172 (dk_at dksX8_isTuned_0 23 rfl rfl)
abbrev cX8_guard : ByteArray := prog_19_method_103_code
def yX8_guard : MethodName := ⟨RX8, "guard", "(IZ)Z"⟩
def dkwX8_guard_0 : List UInt8 := [42, 27, 4, 28, 182, 1, 193, 172]
abbrev dktX8_guard_0 : List UInt8 := dkwX8_guard_0 ++ []
theorem dksX8_guard_0 : cX8_guard.data.toList.drop 0 = dktX8_guard_0 := by decide +kernel
theorem dX8_guard_0 : decode cX8_guard 0 = .ok (.aload_n 0, 1) := dk_42 (dk_at dksX8_guard_0 0 rfl rfl)
theorem dX8_guard_1 : decode cX8_guard 1 = .ok (.iload_n 1, 1) := dk_27 (dk_at dksX8_guard_0 1 rfl rfl)
theorem dX8_guard_2 : decode cX8_guard 2 = .ok (.iconst 1, 1) := dk_4 (dk_at dksX8_guard_0 2 rfl rfl)
theorem dX8_guard_3 : decode cX8_guard 3 = .ok (.iload_n 2, 1) := dk_28 (dk_at dksX8_guard_0 3 rfl rfl)
theorem dX8_guard_4 : decode cX8_guard 4 = .ok (.invokevirtual 449, 3) := dk_182 1 193 (dk_at dksX8_guard_0 4 rfl rfl)
theorem dX8_guard_7 : decode cX8_guard 7 = .ok (.ireturn, 1) := dk_172 (dk_at dksX8_guard_0 7 rfl rfl)
abbrev cX8_put : ByteArray := prog_19_method_104_code
def yX8_put : MethodName := ⟨RX8, "put", "(II)I"⟩
def dkwX8_put_4 : List UInt8 := [167, 0, 5, 21, 4, 172]
abbrev dktX8_put_4 : List UInt8 := dkwX8_put_4 ++ []
def dkwX8_put_3 : List UInt8 := [182, 1, 190, 54, 4, 29, 153, 0, 13, 42, 180, 0, 13, 6, 92, 46, 4, 96, 79, 29, 153, 0, 7, 2]
abbrev dktX8_put_3 : List UInt8 := dkwX8_put_3 ++ dktX8_put_4
def dkwX8_put_2 : List UInt8 := [172, 27, 42, 180, 0, 13, 6, 46, 160, 0, 7, 4, 167, 0, 4, 3, 62, 42, 16, 12, 27, 96, 28]
abbrev dktX8_put_2 : List UInt8 := dkwX8_put_2 ++ dktX8_put_3
def dkwX8_put_1 : List UInt8 := [153, 0, 11, 42, 28, 182, 1, 177, 153, 0, 7, 4, 167, 0, 4, 3, 4, 182, 1, 24, 153, 0, 5, 3]
abbrev dktX8_put_1 : List UInt8 := dkwX8_put_1 ++ dktX8_put_2
def dkwX8_put_0 : List UInt8 := [42, 3, 181, 0, 3, 42, 27, 3, 42, 180, 0, 13, 6, 46, 16, 9, 184, 1, 131, 184, 0, 88]
abbrev dktX8_put_0 : List UInt8 := dkwX8_put_0 ++ dktX8_put_1
theorem dksX8_put_0 : cX8_put.data.toList.drop 0 = dktX8_put_0 := by decide +kernel
theorem dksX8_put_1 : cX8_put.data.toList.drop 22 = dktX8_put_1 := dk_seg dksX8_put_0 22 rfl rfl
theorem dksX8_put_2 : cX8_put.data.toList.drop 46 = dktX8_put_2 := dk_seg dksX8_put_1 24 rfl rfl
theorem dksX8_put_3 : cX8_put.data.toList.drop 69 = dktX8_put_3 := dk_seg dksX8_put_2 23 rfl rfl
theorem dksX8_put_4 : cX8_put.data.toList.drop 93 = dktX8_put_4 := dk_seg dksX8_put_3 24 rfl rfl
theorem dX8_put_0 : decode cX8_put 0 = .ok (.aload_n 0, 1) := dk_42 (dk_at dksX8_put_0 0 rfl rfl)
theorem dX8_put_1 : decode cX8_put 1 = .ok (.iconst 0, 1) := dk_3 (dk_at dksX8_put_0 1 rfl rfl)
theorem dX8_put_2 : decode cX8_put 2 = .ok (.putfield 3, 3) := dk_181 0 3 (dk_at dksX8_put_0 2 rfl rfl)
theorem dX8_put_5 : decode cX8_put 5 = .ok (.aload_n 0, 1) := dk_42 (dk_at dksX8_put_0 5 rfl rfl)
theorem dX8_put_6 : decode cX8_put 6 = .ok (.iload_n 1, 1) := dk_27 (dk_at dksX8_put_0 6 rfl rfl)
theorem dX8_put_7 : decode cX8_put 7 = .ok (.iconst 0, 1) := dk_3 (dk_at dksX8_put_0 7 rfl rfl)
theorem dX8_put_8 : decode cX8_put 8 = .ok (.aload_n 0, 1) := dk_42 (dk_at dksX8_put_0 8 rfl rfl)
theorem dX8_put_9 : decode cX8_put 9 = .ok (.getfield 13, 3) := dk_180 0 13 (dk_at dksX8_put_0 9 rfl rfl)
theorem dX8_put_12 : decode cX8_put 12 = .ok (.iconst 3, 1) := dk_6 (dk_at dksX8_put_0 12 rfl rfl)
theorem dX8_put_13 : decode cX8_put 13 = .ok (.iaload, 1) := dk_46 (dk_at dksX8_put_0 13 rfl rfl)
theorem dX8_put_14 : decode cX8_put 14 = .ok (.bipush 9, 2) := dk_16 9 (dk_at dksX8_put_0 14 rfl rfl)
theorem dX8_put_16 : decode cX8_put 16 = .ok (.invokestatic 387, 3) := dk_184 1 131 (dk_at dksX8_put_0 16 rfl rfl)
theorem dX8_put_19 : decode cX8_put 19 = .ok (.invokestatic 88, 3) := dk_184 0 88 (dk_at dksX8_put_0 19 rfl rfl)
theorem dX8_put_22 : decode cX8_put 22 = .ok (.ifCond .eq 11, 3) := dk_153 0 11 (dk_at dksX8_put_1 0 rfl rfl)
theorem dX8_put_25 : decode cX8_put 25 = .ok (.aload_n 0, 1) := dk_42 (dk_at dksX8_put_1 3 rfl rfl)
theorem dX8_put_26 : decode cX8_put 26 = .ok (.iload_n 2, 1) := dk_28 (dk_at dksX8_put_1 4 rfl rfl)
theorem dX8_put_27 : decode cX8_put 27 = .ok (.invokevirtual 433, 3) := dk_182 1 177 (dk_at dksX8_put_1 5 rfl rfl)
theorem dX8_put_30 : decode cX8_put 30 = .ok (.ifCond .eq 7, 3) := dk_153 0 7 (dk_at dksX8_put_1 8 rfl rfl)
theorem dX8_put_33 : decode cX8_put 33 = .ok (.iconst 1, 1) := dk_4 (dk_at dksX8_put_1 11 rfl rfl)
theorem dX8_put_34 : decode cX8_put 34 = .ok (.goto 4, 3) := dk_167 0 4 (dk_at dksX8_put_1 12 rfl rfl)
theorem dX8_put_37 : decode cX8_put 37 = .ok (.iconst 0, 1) := dk_3 (dk_at dksX8_put_1 15 rfl rfl)
theorem dX8_put_38 : decode cX8_put 38 = .ok (.iconst 1, 1) := dk_4 (dk_at dksX8_put_1 16 rfl rfl)
theorem dX8_put_39 : decode cX8_put 39 = .ok (.invokevirtual 280, 3) := dk_182 1 24 (dk_at dksX8_put_1 17 rfl rfl)
theorem dX8_put_42 : decode cX8_put 42 = .ok (.ifCond .eq 5, 3) := dk_153 0 5 (dk_at dksX8_put_1 20 rfl rfl)
theorem dX8_put_45 : decode cX8_put 45 = .ok (.iconst 0, 1) := dk_3 (dk_at dksX8_put_1 23 rfl rfl)
theorem dX8_put_46 : decode cX8_put 46 = .ok (.ireturn, 1) := dk_172 (dk_at dksX8_put_2 0 rfl rfl)
theorem dX8_put_47 : decode cX8_put 47 = .ok (.iload_n 1, 1) := dk_27 (dk_at dksX8_put_2 1 rfl rfl)
theorem dX8_put_48 : decode cX8_put 48 = .ok (.aload_n 0, 1) := dk_42 (dk_at dksX8_put_2 2 rfl rfl)
theorem dX8_put_49 : decode cX8_put 49 = .ok (.getfield 13, 3) := dk_180 0 13 (dk_at dksX8_put_2 3 rfl rfl)
theorem dX8_put_52 : decode cX8_put 52 = .ok (.iconst 3, 1) := dk_6 (dk_at dksX8_put_2 6 rfl rfl)
theorem dX8_put_53 : decode cX8_put 53 = .ok (.iaload, 1) := dk_46 (dk_at dksX8_put_2 7 rfl rfl)
theorem dX8_put_54 : decode cX8_put 54 = .ok (.if_icmp .ne 7, 3) := dk_160 0 7 (dk_at dksX8_put_2 8 rfl rfl)
theorem dX8_put_57 : decode cX8_put 57 = .ok (.iconst 1, 1) := dk_4 (dk_at dksX8_put_2 11 rfl rfl)
theorem dX8_put_58 : decode cX8_put 58 = .ok (.goto 4, 3) := dk_167 0 4 (dk_at dksX8_put_2 12 rfl rfl)
theorem dX8_put_61 : decode cX8_put 61 = .ok (.iconst 0, 1) := dk_3 (dk_at dksX8_put_2 15 rfl rfl)
theorem dX8_put_62 : decode cX8_put 62 = .ok (.istore_n 3, 1) := dk_62 (dk_at dksX8_put_2 16 rfl rfl)
theorem dX8_put_63 : decode cX8_put 63 = .ok (.aload_n 0, 1) := dk_42 (dk_at dksX8_put_2 17 rfl rfl)
theorem dX8_put_64 : decode cX8_put 64 = .ok (.bipush 12, 2) := dk_16 12 (dk_at dksX8_put_2 18 rfl rfl)
theorem dX8_put_66 : decode cX8_put 66 = .ok (.iload_n 1, 1) := dk_27 (dk_at dksX8_put_2 20 rfl rfl)
theorem dX8_put_67 : decode cX8_put 67 = .ok (.iadd, 1) := dk_96 (dk_at dksX8_put_2 21 rfl rfl)
theorem dX8_put_68 : decode cX8_put 68 = .ok (.iload_n 2, 1) := dk_28 (dk_at dksX8_put_2 22 rfl rfl)
theorem dX8_put_69 : decode cX8_put 69 = .ok (.invokevirtual 446, 3) := dk_182 1 190 (dk_at dksX8_put_3 0 rfl rfl)
theorem dX8_put_72 : decode cX8_put 72 = .ok (.istore 4, 2) := dk_54 4 (dk_at dksX8_put_3 3 rfl rfl)
theorem dX8_put_74 : decode cX8_put 74 = .ok (.iload_n 3, 1) := dk_29 (dk_at dksX8_put_3 5 rfl rfl)
theorem dX8_put_75 : decode cX8_put 75 = .ok (.ifCond .eq 13, 3) := dk_153 0 13 (dk_at dksX8_put_3 6 rfl rfl)
theorem dX8_put_78 : decode cX8_put 78 = .ok (.aload_n 0, 1) := dk_42 (dk_at dksX8_put_3 9 rfl rfl)
theorem dX8_put_79 : decode cX8_put 79 = .ok (.getfield 13, 3) := dk_180 0 13 (dk_at dksX8_put_3 10 rfl rfl)
theorem dX8_put_82 : decode cX8_put 82 = .ok (.iconst 3, 1) := dk_6 (dk_at dksX8_put_3 13 rfl rfl)
theorem dX8_put_83 : decode cX8_put 83 = .ok (.dup2, 1) := dk_92 (dk_at dksX8_put_3 14 rfl rfl)
theorem dX8_put_84 : decode cX8_put 84 = .ok (.iaload, 1) := dk_46 (dk_at dksX8_put_3 15 rfl rfl)
theorem dX8_put_85 : decode cX8_put 85 = .ok (.iconst 1, 1) := dk_4 (dk_at dksX8_put_3 16 rfl rfl)
theorem dX8_put_86 : decode cX8_put 86 = .ok (.iadd, 1) := dk_96 (dk_at dksX8_put_3 17 rfl rfl)
theorem dX8_put_87 : decode cX8_put 87 = .ok (.iastore, 1) := dk_79 (dk_at dksX8_put_3 18 rfl rfl)
theorem dX8_put_88 : decode cX8_put 88 = .ok (.iload_n 3, 1) := dk_29 (dk_at dksX8_put_3 19 rfl rfl)
theorem dX8_put_89 : decode cX8_put 89 = .ok (.ifCond .eq 7, 3) := dk_153 0 7 (dk_at dksX8_put_3 20 rfl rfl)
theorem dX8_put_92 : decode cX8_put 92 = .ok (.iconst (-1), 1) := dk_2 (dk_at dksX8_put_3 23 rfl rfl)
theorem dX8_put_93 : decode cX8_put 93 = .ok (.goto 5, 3) := dk_167 0 5 (dk_at dksX8_put_4 0 rfl rfl)
theorem dX8_put_96 : decode cX8_put 96 = .ok (.iload 4, 2) := dk_21 4 (dk_at dksX8_put_4 3 rfl rfl)
theorem dX8_put_98 : decode cX8_put 98 = .ok (.ireturn, 1) := dk_172 (dk_at dksX8_put_4 5 rfl rfl)
abbrev cX8_store : ByteArray := prog_19_method_105_code
def yX8_store : MethodName := ⟨RX8, "store", "(II)I"⟩
def dkwX8_store_2 : List UInt8 := [16, 22, 27, 96, 28, 182, 1, 190, 172]
abbrev dktX8_store_2 : List UInt8 := dkwX8_store_2 ++ []
def dkwX8_store_1 : List UInt8 := [184, 0, 88, 154, 0, 7, 4, 167, 0, 4, 3, 5, 182, 1, 24, 153, 0, 7, 3, 167, 0, 12, 42]
abbrev dktX8_store_1 : List UInt8 := dkwX8_store_1 ++ dktX8_store_2
def dkwX8_store_0 : List UInt8 := [42, 3, 181, 0, 3, 42, 42, 27, 182, 1, 180, 4, 182, 1, 24, 154, 0, 25, 42, 28, 3, 6]
abbrev dktX8_store_0 : List UInt8 := dkwX8_store_0 ++ dktX8_store_1
theorem dksX8_store_0 : cX8_store.data.toList.drop 0 = dktX8_store_0 := by decide +kernel
theorem dksX8_store_1 : cX8_store.data.toList.drop 22 = dktX8_store_1 := dk_seg dksX8_store_0 22 rfl rfl
theorem dksX8_store_2 : cX8_store.data.toList.drop 45 = dktX8_store_2 := dk_seg dksX8_store_1 23 rfl rfl
theorem dX8_store_0 : decode cX8_store 0 = .ok (.aload_n 0, 1) := dk_42 (dk_at dksX8_store_0 0 rfl rfl)
theorem dX8_store_1 : decode cX8_store 1 = .ok (.iconst 0, 1) := dk_3 (dk_at dksX8_store_0 1 rfl rfl)
theorem dX8_store_2 : decode cX8_store 2 = .ok (.putfield 3, 3) := dk_181 0 3 (dk_at dksX8_store_0 2 rfl rfl)
theorem dX8_store_5 : decode cX8_store 5 = .ok (.aload_n 0, 1) := dk_42 (dk_at dksX8_store_0 5 rfl rfl)
theorem dX8_store_6 : decode cX8_store 6 = .ok (.aload_n 0, 1) := dk_42 (dk_at dksX8_store_0 6 rfl rfl)
theorem dX8_store_7 : decode cX8_store 7 = .ok (.iload_n 1, 1) := dk_27 (dk_at dksX8_store_0 7 rfl rfl)
theorem dX8_store_8 : decode cX8_store 8 = .ok (.invokevirtual 436, 3) := dk_182 1 180 (dk_at dksX8_store_0 8 rfl rfl)
theorem dX8_store_11 : decode cX8_store 11 = .ok (.iconst 1, 1) := dk_4 (dk_at dksX8_store_0 11 rfl rfl)
theorem dX8_store_12 : decode cX8_store 12 = .ok (.invokevirtual 280, 3) := dk_182 1 24 (dk_at dksX8_store_0 12 rfl rfl)
theorem dX8_store_15 : decode cX8_store 15 = .ok (.ifCond .ne 25, 3) := dk_154 0 25 (dk_at dksX8_store_0 15 rfl rfl)
theorem dX8_store_18 : decode cX8_store 18 = .ok (.aload_n 0, 1) := dk_42 (dk_at dksX8_store_0 18 rfl rfl)
theorem dX8_store_19 : decode cX8_store 19 = .ok (.iload_n 2, 1) := dk_28 (dk_at dksX8_store_0 19 rfl rfl)
theorem dX8_store_20 : decode cX8_store 20 = .ok (.iconst 0, 1) := dk_3 (dk_at dksX8_store_0 20 rfl rfl)
theorem dX8_store_21 : decode cX8_store 21 = .ok (.iconst 3, 1) := dk_6 (dk_at dksX8_store_0 21 rfl rfl)
theorem dX8_store_22 : decode cX8_store 22 = .ok (.invokestatic 88, 3) := dk_184 0 88 (dk_at dksX8_store_1 0 rfl rfl)
theorem dX8_store_25 : decode cX8_store 25 = .ok (.ifCond .ne 7, 3) := dk_154 0 7 (dk_at dksX8_store_1 3 rfl rfl)
theorem dX8_store_28 : decode cX8_store 28 = .ok (.iconst 1, 1) := dk_4 (dk_at dksX8_store_1 6 rfl rfl)
theorem dX8_store_29 : decode cX8_store 29 = .ok (.goto 4, 3) := dk_167 0 4 (dk_at dksX8_store_1 7 rfl rfl)
theorem dX8_store_32 : decode cX8_store 32 = .ok (.iconst 0, 1) := dk_3 (dk_at dksX8_store_1 10 rfl rfl)
theorem dX8_store_33 : decode cX8_store 33 = .ok (.iconst 2, 1) := dk_5 (dk_at dksX8_store_1 11 rfl rfl)
theorem dX8_store_34 : decode cX8_store 34 = .ok (.invokevirtual 280, 3) := dk_182 1 24 (dk_at dksX8_store_1 12 rfl rfl)
theorem dX8_store_37 : decode cX8_store 37 = .ok (.ifCond .eq 7, 3) := dk_153 0 7 (dk_at dksX8_store_1 15 rfl rfl)
theorem dX8_store_40 : decode cX8_store 40 = .ok (.iconst 0, 1) := dk_3 (dk_at dksX8_store_1 18 rfl rfl)
theorem dX8_store_41 : decode cX8_store 41 = .ok (.goto 12, 3) := dk_167 0 12 (dk_at dksX8_store_1 19 rfl rfl)
theorem dX8_store_44 : decode cX8_store 44 = .ok (.aload_n 0, 1) := dk_42 (dk_at dksX8_store_1 22 rfl rfl)
theorem dX8_store_45 : decode cX8_store 45 = .ok (.bipush 22, 2) := dk_16 22 (dk_at dksX8_store_2 0 rfl rfl)
theorem dX8_store_47 : decode cX8_store 47 = .ok (.iload_n 1, 1) := dk_27 (dk_at dksX8_store_2 2 rfl rfl)
theorem dX8_store_48 : decode cX8_store 48 = .ok (.iadd, 1) := dk_96 (dk_at dksX8_store_2 3 rfl rfl)
theorem dX8_store_49 : decode cX8_store 49 = .ok (.iload_n 2, 1) := dk_28 (dk_at dksX8_store_2 4 rfl rfl)
theorem dX8_store_50 : decode cX8_store 50 = .ok (.invokevirtual 446, 3) := dk_182 1 190 (dk_at dksX8_store_2 5 rfl rfl)
theorem dX8_store_53 : decode cX8_store 53 = .ok (.ireturn, 1) := dk_172 (dk_at dksX8_store_2 8 rfl rfl)
abbrev cX8_vector : ByteArray := prog_19_method_107_code
def yX8_vector : MethodName := ⟨RX8, "vector", "(I)I"⟩
def dkwX8_vector_0 : List UInt8 := [42, 7, 27, 16, 9, 182, 1, 197, 172]
abbrev dktX8_vector_0 : List UInt8 := dkwX8_vector_0 ++ []
theorem dksX8_vector_0 : cX8_vector.data.toList.drop 0 = dktX8_vector_0 := by decide +kernel
theorem dX8_vector_0 : decode cX8_vector 0 = .ok (.aload_n 0, 1) := dk_42 (dk_at dksX8_vector_0 0 rfl rfl)
theorem dX8_vector_1 : decode cX8_vector 1 = .ok (.iconst 4, 1) := dk_7 (dk_at dksX8_vector_0 1 rfl rfl)
theorem dX8_vector_2 : decode cX8_vector 2 = .ok (.iload_n 1, 1) := dk_27 (dk_at dksX8_vector_0 2 rfl rfl)
theorem dX8_vector_3 : decode cX8_vector 3 = .ok (.bipush 9, 2) := dk_16 9 (dk_at dksX8_vector_0 3 rfl rfl)
theorem dX8_vector_5 : decode cX8_vector 5 = .ok (.invokevirtual 453, 3) := dk_182 1 197 (dk_at dksX8_vector_0 5 rfl rfl)
theorem dX8_vector_8 : decode cX8_vector 8 = .ok (.ireturn, 1) := dk_172 (dk_at dksX8_vector_0 8 rfl rfl)
abbrev cX8_isFigure : ByteArray := prog_19_method_106_code
def yX8_isFigure : MethodName := ⟨RX8, "isFigure", "(III)I"⟩
def dkwX8_isFigure_1 : List UInt8 := [153, 0, 7, 3, 167, 0, 9, 42, 27, 28, 182, 1, 190, 172]
abbrev dktX8_isFigure_1 : List UInt8 := dkwX8_isFigure_1 ++ []
def dkwX8_isFigure_0 : List UInt8 := [42, 3, 181, 0, 3, 42, 28, 3, 29, 184, 0, 88, 154, 0, 7, 4, 167, 0, 4, 3, 4, 182, 1, 24]
abbrev dktX8_isFigure_0 : List UInt8 := dkwX8_isFigure_0 ++ dktX8_isFigure_1
theorem dksX8_isFigure_0 : cX8_isFigure.data.toList.drop 0 = dktX8_isFigure_0 := by decide +kernel
theorem dksX8_isFigure_1 : cX8_isFigure.data.toList.drop 24 = dktX8_isFigure_1 := dk_seg dksX8_isFigure_0 24 rfl rfl
theorem dX8_isFigure_0 : decode cX8_isFigure 0 = .ok (.aload_n 0, 1) := dk_42 (dk_at dksX8_isFigure_0 0 rfl rfl)
theorem dX8_isFigure_1 : decode cX8_isFigure 1 = .ok (.iconst 0, 1) := dk_3 (dk_at dksX8_isFigure_0 1 rfl rfl)
theorem dX8_isFigure_2 : decode cX8_isFigure 2 = .ok (.putfield 3, 3) := dk_181 0 3 (dk_at dksX8_isFigure_0 2 rfl rfl)
theorem dX8_isFigure_5 : decode cX8_isFigure 5 = .ok (.aload_n 0, 1) := dk_42 (dk_at dksX8_isFigure_0 5 rfl rfl)
theorem dX8_isFigure_6 : decode cX8_isFigure 6 = .ok (.iload_n 2, 1) := dk_28 (dk_at dksX8_isFigure_0 6 rfl rfl)
theorem dX8_isFigure_7 : decode cX8_isFigure 7 = .ok (.iconst 0, 1) := dk_3 (dk_at dksX8_isFigure_0 7 rfl rfl)
theorem dX8_isFigure_8 : decode cX8_isFigure 8 = .ok (.iload_n 3, 1) := dk_29 (dk_at dksX8_isFigure_0 8 rfl rfl)
theorem dX8_isFigure_9 : decode cX8_isFigure 9 = .ok (.invokestatic 88, 3) := dk_184 0 88 (dk_at dksX8_isFigure_0 9 rfl rfl)
theorem dX8_isFigure_12 : decode cX8_isFigure 12 = .ok (.ifCond .ne 7, 3) := dk_154 0 7 (dk_at dksX8_isFigure_0 12 rfl rfl)
theorem dX8_isFigure_15 : decode cX8_isFigure 15 = .ok (.iconst 1, 1) := dk_4 (dk_at dksX8_isFigure_0 15 rfl rfl)
theorem dX8_isFigure_16 : decode cX8_isFigure 16 = .ok (.goto 4, 3) := dk_167 0 4 (dk_at dksX8_isFigure_0 16 rfl rfl)
theorem dX8_isFigure_19 : decode cX8_isFigure 19 = .ok (.iconst 0, 1) := dk_3 (dk_at dksX8_isFigure_0 19 rfl rfl)
theorem dX8_isFigure_20 : decode cX8_isFigure 20 = .ok (.iconst 1, 1) := dk_4 (dk_at dksX8_isFigure_0 20 rfl rfl)
theorem dX8_isFigure_21 : decode cX8_isFigure 21 = .ok (.invokevirtual 280, 3) := dk_182 1 24 (dk_at dksX8_isFigure_0 21 rfl rfl)
theorem dX8_isFigure_24 : decode cX8_isFigure 24 = .ok (.ifCond .eq 7, 3) := dk_153 0 7 (dk_at dksX8_isFigure_1 0 rfl rfl)
theorem dX8_isFigure_27 : decode cX8_isFigure 27 = .ok (.iconst 0, 1) := dk_3 (dk_at dksX8_isFigure_1 3 rfl rfl)
theorem dX8_isFigure_28 : decode cX8_isFigure 28 = .ok (.goto 9, 3) := dk_167 0 9 (dk_at dksX8_isFigure_1 4 rfl rfl)
theorem dX8_isFigure_31 : decode cX8_isFigure 31 = .ok (.aload_n 0, 1) := dk_42 (dk_at dksX8_isFigure_1 7 rfl rfl)
theorem dX8_isFigure_32 : decode cX8_isFigure 32 = .ok (.iload_n 1, 1) := dk_27 (dk_at dksX8_isFigure_1 8 rfl rfl)
theorem dX8_isFigure_33 : decode cX8_isFigure 33 = .ok (.iload_n 2, 1) := dk_28 (dk_at dksX8_isFigure_1 9 rfl rfl)
theorem dX8_isFigure_34 : decode cX8_isFigure 34 = .ok (.invokevirtual 446, 3) := dk_182 1 190 (dk_at dksX8_isFigure_1 10 rfl rfl)
theorem dX8_isFigure_37 : decode cX8_isFigure 37 = .ok (.ireturn, 1) := dk_172 (dk_at dksX8_isFigure_1 13 rfl rfl)
abbrev cX8_shift : ByteArray := prog_19_method_108_code
def yX8_shift : MethodName := ⟨RX8, "shift", "(I)I"⟩
def dkwX8_shift_1 : List UInt8 := [153, 0, 7, 3, 167, 0, 13, 42, 8, 5, 27, 104, 182, 1, 190, 5, 108, 172]
abbrev dktX8_shift_1 : List UInt8 := dkwX8_shift_1 ++ []
def dkwX8_shift_0 : List UInt8 := [42, 3, 181, 0, 3, 42, 27, 3, 6, 184, 0, 88, 154, 0, 7, 4, 167, 0, 4, 3, 4, 182, 1, 24]
abbrev dktX8_shift_0 : List UInt8 := dkwX8_shift_0 ++ dktX8_shift_1
theorem dksX8_shift_0 : cX8_shift.data.toList.drop 0 = dktX8_shift_0 := by decide +kernel
theorem dksX8_shift_1 : cX8_shift.data.toList.drop 24 = dktX8_shift_1 := dk_seg dksX8_shift_0 24 rfl rfl
theorem dX8_shift_0 : decode cX8_shift 0 = .ok (.aload_n 0, 1) := dk_42 (dk_at dksX8_shift_0 0 rfl rfl)
theorem dX8_shift_1 : decode cX8_shift 1 = .ok (.iconst 0, 1) := dk_3 (dk_at dksX8_shift_0 1 rfl rfl)
theorem dX8_shift_2 : decode cX8_shift 2 = .ok (.putfield 3, 3) := dk_181 0 3 (dk_at dksX8_shift_0 2 rfl rfl)
theorem dX8_shift_5 : decode cX8_shift 5 = .ok (.aload_n 0, 1) := dk_42 (dk_at dksX8_shift_0 5 rfl rfl)
theorem dX8_shift_6 : decode cX8_shift 6 = .ok (.iload_n 1, 1) := dk_27 (dk_at dksX8_shift_0 6 rfl rfl)
theorem dX8_shift_7 : decode cX8_shift 7 = .ok (.iconst 0, 1) := dk_3 (dk_at dksX8_shift_0 7 rfl rfl)
theorem dX8_shift_8 : decode cX8_shift 8 = .ok (.iconst 3, 1) := dk_6 (dk_at dksX8_shift_0 8 rfl rfl)
theorem dX8_shift_9 : decode cX8_shift 9 = .ok (.invokestatic 88, 3) := dk_184 0 88 (dk_at dksX8_shift_0 9 rfl rfl)
theorem dX8_shift_12 : decode cX8_shift 12 = .ok (.ifCond .ne 7, 3) := dk_154 0 7 (dk_at dksX8_shift_0 12 rfl rfl)
theorem dX8_shift_15 : decode cX8_shift 15 = .ok (.iconst 1, 1) := dk_4 (dk_at dksX8_shift_0 15 rfl rfl)
theorem dX8_shift_16 : decode cX8_shift 16 = .ok (.goto 4, 3) := dk_167 0 4 (dk_at dksX8_shift_0 16 rfl rfl)
theorem dX8_shift_19 : decode cX8_shift 19 = .ok (.iconst 0, 1) := dk_3 (dk_at dksX8_shift_0 19 rfl rfl)
theorem dX8_shift_20 : decode cX8_shift 20 = .ok (.iconst 1, 1) := dk_4 (dk_at dksX8_shift_0 20 rfl rfl)
theorem dX8_shift_21 : decode cX8_shift 21 = .ok (.invokevirtual 280, 3) := dk_182 1 24 (dk_at dksX8_shift_0 21 rfl rfl)
theorem dX8_shift_24 : decode cX8_shift 24 = .ok (.ifCond .eq 7, 3) := dk_153 0 7 (dk_at dksX8_shift_1 0 rfl rfl)
theorem dX8_shift_27 : decode cX8_shift 27 = .ok (.iconst 0, 1) := dk_3 (dk_at dksX8_shift_1 3 rfl rfl)
theorem dX8_shift_28 : decode cX8_shift 28 = .ok (.goto 13, 3) := dk_167 0 13 (dk_at dksX8_shift_1 4 rfl rfl)
theorem dX8_shift_31 : decode cX8_shift 31 = .ok (.aload_n 0, 1) := dk_42 (dk_at dksX8_shift_1 7 rfl rfl)
theorem dX8_shift_32 : decode cX8_shift 32 = .ok (.iconst 5, 1) := dk_8 (dk_at dksX8_shift_1 8 rfl rfl)
theorem dX8_shift_33 : decode cX8_shift 33 = .ok (.iconst 2, 1) := dk_5 (dk_at dksX8_shift_1 9 rfl rfl)
theorem dX8_shift_34 : decode cX8_shift 34 = .ok (.iload_n 1, 1) := dk_27 (dk_at dksX8_shift_1 10 rfl rfl)
theorem dX8_shift_35 : decode cX8_shift 35 = .ok (.imul, 1) := dk_104 (dk_at dksX8_shift_1 11 rfl rfl)
theorem dX8_shift_36 : decode cX8_shift 36 = .ok (.invokevirtual 446, 3) := dk_182 1 190 (dk_at dksX8_shift_1 12 rfl rfl)
theorem dX8_shift_39 : decode cX8_shift 39 = .ok (.iconst 2, 1) := dk_5 (dk_at dksX8_shift_1 15 rfl rfl)
theorem dX8_shift_40 : decode cX8_shift 40 = .ok (.idiv, 1) := dk_108 (dk_at dksX8_shift_1 16 rfl rfl)
theorem dX8_shift_41 : decode cX8_shift 41 = .ok (.ireturn, 1) := dk_172 (dk_at dksX8_shift_1 17 rfl rfl)
abbrev cX8_cost : ByteArray := prog_19_method_109_code
def yX8_cost : MethodName := ⟨RX8, "cost", "(I)I"⟩
def dkwX8_cost_0 : List UInt8 := [42, 16, 6, 27, 16, 7, 182, 1, 197, 172]
abbrev dktX8_cost_0 : List UInt8 := dkwX8_cost_0 ++ []
theorem dksX8_cost_0 : cX8_cost.data.toList.drop 0 = dktX8_cost_0 := by decide +kernel
theorem dX8_cost_0 : decode cX8_cost 0 = .ok (.aload_n 0, 1) := dk_42 (dk_at dksX8_cost_0 0 rfl rfl)
theorem dX8_cost_1 : decode cX8_cost 1 = .ok (.bipush 6, 2) := dk_16 6 (dk_at dksX8_cost_0 1 rfl rfl)
theorem dX8_cost_3 : decode cX8_cost 3 = .ok (.iload_n 1, 1) := dk_27 (dk_at dksX8_cost_0 3 rfl rfl)
theorem dX8_cost_4 : decode cX8_cost 4 = .ok (.bipush 7, 2) := dk_16 7 (dk_at dksX8_cost_0 4 rfl rfl)
theorem dX8_cost_6 : decode cX8_cost 6 = .ok (.invokevirtual 453, 3) := dk_182 1 197 (dk_at dksX8_cost_0 6 rfl rfl)
theorem dX8_cost_9 : decode cX8_cost 9 = .ok (.ireturn, 1) := dk_172 (dk_at dksX8_cost_0 9 rfl rfl)
abbrev cX8_alarm : ByteArray := prog_19_method_110_code
def yX8_alarm : MethodName := ⟨RX8, "alarm", "(I)I"⟩
def dkwX8_alarm_0 : List UInt8 := [42, 16, 7, 27, 16, 100, 182, 1, 197, 172]
abbrev dktX8_alarm_0 : List UInt8 := dkwX8_alarm_0 ++ []
theorem dksX8_alarm_0 : cX8_alarm.data.toList.drop 0 = dktX8_alarm_0 := by decide +kernel
theorem dX8_alarm_0 : decode cX8_alarm 0 = .ok (.aload_n 0, 1) := dk_42 (dk_at dksX8_alarm_0 0 rfl rfl)
theorem dX8_alarm_1 : decode cX8_alarm 1 = .ok (.bipush 7, 2) := dk_16 7 (dk_at dksX8_alarm_0 1 rfl rfl)
theorem dX8_alarm_3 : decode cX8_alarm 3 = .ok (.iload_n 1, 1) := dk_27 (dk_at dksX8_alarm_0 3 rfl rfl)
theorem dX8_alarm_4 : decode cX8_alarm 4 = .ok (.bipush 100, 2) := dk_16 100 (dk_at dksX8_alarm_0 4 rfl rfl)
theorem dX8_alarm_6 : decode cX8_alarm 6 = .ok (.invokevirtual 453, 3) := dk_182 1 197 (dk_at dksX8_alarm_0 6 rfl rfl)
theorem dX8_alarm_9 : decode cX8_alarm 9 = .ok (.ireturn, 1) := dk_172 (dk_at dksX8_alarm_0 9 rfl rfl)
abbrev cX8_hostable : ByteArray := prog_19_method_112_code
def yX8_hostable : MethodName := ⟨RX8, "hostable", "()Z"⟩
def dkwX8_hostable_0 : List UInt8 := [42, 3, 181, 0, 3, 42, 182, 1, 200, 154, 0, 7, 4, 167, 0, 4, 3, 172]
abbrev dktX8_hostable_0 : List UInt8 := dkwX8_hostable_0 ++ []
theorem dksX8_hostable_0 : cX8_hostable.data.toList.drop 0 = dktX8_hostable_0 := by decide +kernel
theorem dX8_hostable_0 : decode cX8_hostable 0 = .ok (.aload_n 0, 1) := dk_42 (dk_at dksX8_hostable_0 0 rfl rfl)
theorem dX8_hostable_1 : decode cX8_hostable 1 = .ok (.iconst 0, 1) := dk_3 (dk_at dksX8_hostable_0 1 rfl rfl)
theorem dX8_hostable_2 : decode cX8_hostable 2 = .ok (.putfield 3, 3) := dk_181 0 3 (dk_at dksX8_hostable_0 2 rfl rfl)
theorem dX8_hostable_5 : decode cX8_hostable 5 = .ok (.aload_n 0, 1) := dk_42 (dk_at dksX8_hostable_0 5 rfl rfl)
theorem dX8_hostable_6 : decode cX8_hostable 6 = .ok (.invokevirtual 456, 3) := dk_182 1 200 (dk_at dksX8_hostable_0 6 rfl rfl)
theorem dX8_hostable_9 : decode cX8_hostable 9 = .ok (.ifCond .ne 7, 3) := dk_154 0 7 (dk_at dksX8_hostable_0 9 rfl rfl)
theorem dX8_hostable_12 : decode cX8_hostable 12 = .ok (.iconst 1, 1) := dk_4 (dk_at dksX8_hostable_0 12 rfl rfl)
theorem dX8_hostable_13 : decode cX8_hostable 13 = .ok (.goto 4, 3) := dk_167 0 4 (dk_at dksX8_hostable_0 13 rfl rfl)
theorem dX8_hostable_16 : decode cX8_hostable 16 = .ok (.iconst 0, 1) := dk_3 (dk_at dksX8_hostable_0 16 rfl rfl)
theorem dX8_hostable_17 : decode cX8_hostable 17 = .ok (.ireturn, 1) := dk_172 (dk_at dksX8_hostable_0 17 rfl rfl)
abbrev cX8_openOnes : ByteArray := prog_19_method_111_code
def yX8_openOnes : MethodName := ⟨RX8, "openOnes", "()I"⟩
def dkwX8_openOnes_2 : List UInt8 := [167, 255, 218, 27, 172]
abbrev dktX8_openOnes_2 : List UInt8 := dkwX8_openOnes_2 ++ []
def dkwX8_openOnes_1 : List UInt8 := [153, 0, 18, 42, 28, 4, 182, 0, 78, 154, 0, 9, 4, 28, 120, 167, 0, 4, 3, 128, 60, 132, 2, 1]
abbrev dktX8_openOnes_1 : List UInt8 := dkwX8_openOnes_1 ++ dktX8_openOnes_2
def dkwX8_openOnes_0 : List UInt8 := [42, 182, 1, 167, 3, 60, 3, 61, 28, 42, 182, 0, 84, 162, 0, 36, 27, 42, 28, 182, 1, 115]
abbrev dktX8_openOnes_0 : List UInt8 := dkwX8_openOnes_0 ++ dktX8_openOnes_1
theorem dksX8_openOnes_0 : cX8_openOnes.data.toList.drop 0 = dktX8_openOnes_0 := by decide +kernel
theorem dksX8_openOnes_1 : cX8_openOnes.data.toList.drop 22 = dktX8_openOnes_1 := dk_seg dksX8_openOnes_0 22 rfl rfl
theorem dksX8_openOnes_2 : cX8_openOnes.data.toList.drop 46 = dktX8_openOnes_2 := dk_seg dksX8_openOnes_1 24 rfl rfl
theorem dX8_openOnes_0 : decode cX8_openOnes 0 = .ok (.aload_n 0, 1) := dk_42 (dk_at dksX8_openOnes_0 0 rfl rfl)
theorem dX8_openOnes_1 : decode cX8_openOnes 1 = .ok (.invokevirtual 423, 3) := dk_182 1 167 (dk_at dksX8_openOnes_0 1 rfl rfl)
theorem dX8_openOnes_4 : decode cX8_openOnes 4 = .ok (.iconst 0, 1) := dk_3 (dk_at dksX8_openOnes_0 4 rfl rfl)
theorem dX8_openOnes_5 : decode cX8_openOnes 5 = .ok (.istore_n 1, 1) := dk_60 (dk_at dksX8_openOnes_0 5 rfl rfl)
theorem dX8_openOnes_6 : decode cX8_openOnes 6 = .ok (.iconst 0, 1) := dk_3 (dk_at dksX8_openOnes_0 6 rfl rfl)
theorem dX8_openOnes_7 : decode cX8_openOnes 7 = .ok (.istore_n 2, 1) := dk_61 (dk_at dksX8_openOnes_0 7 rfl rfl)
theorem dX8_openOnes_8 : decode cX8_openOnes 8 = .ok (.iload_n 2, 1) := dk_28 (dk_at dksX8_openOnes_0 8 rfl rfl)
theorem dX8_openOnes_9 : decode cX8_openOnes 9 = .ok (.aload_n 0, 1) := dk_42 (dk_at dksX8_openOnes_0 9 rfl rfl)
theorem dX8_openOnes_10 : decode cX8_openOnes 10 = .ok (.invokevirtual 84, 3) := dk_182 0 84 (dk_at dksX8_openOnes_0 10 rfl rfl)
theorem dX8_openOnes_13 : decode cX8_openOnes 13 = .ok (.if_icmp .ge 36, 3) := dk_162 0 36 (dk_at dksX8_openOnes_0 13 rfl rfl)
theorem dX8_openOnes_16 : decode cX8_openOnes 16 = .ok (.iload_n 1, 1) := dk_27 (dk_at dksX8_openOnes_0 16 rfl rfl)
theorem dX8_openOnes_17 : decode cX8_openOnes 17 = .ok (.aload_n 0, 1) := dk_42 (dk_at dksX8_openOnes_0 17 rfl rfl)
theorem dX8_openOnes_18 : decode cX8_openOnes 18 = .ok (.iload_n 2, 1) := dk_28 (dk_at dksX8_openOnes_0 18 rfl rfl)
theorem dX8_openOnes_19 : decode cX8_openOnes 19 = .ok (.invokevirtual 371, 3) := dk_182 1 115 (dk_at dksX8_openOnes_0 19 rfl rfl)
theorem dX8_openOnes_22 : decode cX8_openOnes 22 = .ok (.ifCond .eq 18, 3) := dk_153 0 18 (dk_at dksX8_openOnes_1 0 rfl rfl)
theorem dX8_openOnes_25 : decode cX8_openOnes 25 = .ok (.aload_n 0, 1) := dk_42 (dk_at dksX8_openOnes_1 3 rfl rfl)
theorem dX8_openOnes_26 : decode cX8_openOnes 26 = .ok (.iload_n 2, 1) := dk_28 (dk_at dksX8_openOnes_1 4 rfl rfl)
theorem dX8_openOnes_27 : decode cX8_openOnes 27 = .ok (.iconst 1, 1) := dk_4 (dk_at dksX8_openOnes_1 5 rfl rfl)
theorem dX8_openOnes_28 : decode cX8_openOnes 28 = .ok (.invokevirtual 78, 3) := dk_182 0 78 (dk_at dksX8_openOnes_1 6 rfl rfl)
theorem dX8_openOnes_31 : decode cX8_openOnes 31 = .ok (.ifCond .ne 9, 3) := dk_154 0 9 (dk_at dksX8_openOnes_1 9 rfl rfl)
theorem dX8_openOnes_34 : decode cX8_openOnes 34 = .ok (.iconst 1, 1) := dk_4 (dk_at dksX8_openOnes_1 12 rfl rfl)
theorem dX8_openOnes_35 : decode cX8_openOnes 35 = .ok (.iload_n 2, 1) := dk_28 (dk_at dksX8_openOnes_1 13 rfl rfl)
theorem dX8_openOnes_36 : decode cX8_openOnes 36 = .ok (.ishl, 1) := dk_120 (dk_at dksX8_openOnes_1 14 rfl rfl)
theorem dX8_openOnes_37 : decode cX8_openOnes 37 = .ok (.goto 4, 3) := dk_167 0 4 (dk_at dksX8_openOnes_1 15 rfl rfl)
theorem dX8_openOnes_40 : decode cX8_openOnes 40 = .ok (.iconst 0, 1) := dk_3 (dk_at dksX8_openOnes_1 18 rfl rfl)
theorem dX8_openOnes_41 : decode cX8_openOnes 41 = .ok (.ior, 1) := dk_128 (dk_at dksX8_openOnes_1 19 rfl rfl)
theorem dX8_openOnes_42 : decode cX8_openOnes 42 = .ok (.istore_n 1, 1) := dk_60 (dk_at dksX8_openOnes_1 20 rfl rfl)
theorem dX8_openOnes_43 : decode cX8_openOnes 43 = .ok (.iinc 2 1, 3) := dk_132 2 1 (dk_at dksX8_openOnes_1 21 rfl rfl)
theorem dX8_openOnes_46 : decode cX8_openOnes 46 = .ok (.goto (-38), 3) := dk_167 255 218 (dk_at dksX8_openOnes_2 0 rfl rfl)
theorem dX8_openOnes_49 : decode cX8_openOnes 49 = .ok (.iload_n 1, 1) := dk_27 (dk_at dksX8_openOnes_2 3 rfl rfl)
theorem dX8_openOnes_50 : decode cX8_openOnes 50 = .ok (.ireturn, 1) := dk_172 (dk_at dksX8_openOnes_2 4 rfl rfl)
abbrev cX8_open : ByteArray := prog_19_method_113_code
def yX8_open : MethodName := ⟨RX8, "open", "()I"⟩
def dkwX8_open_0 : List UInt8 := [42, 3, 181, 0, 3, 42, 182, 1, 200, 184, 1, 203, 172]
abbrev dktX8_open_0 : List UInt8 := dkwX8_open_0 ++ []
theorem dksX8_open_0 : cX8_open.data.toList.drop 0 = dktX8_open_0 := by decide +kernel
theorem dX8_open_0 : decode cX8_open 0 = .ok (.aload_n 0, 1) := dk_42 (dk_at dksX8_open_0 0 rfl rfl)
theorem dX8_open_1 : decode cX8_open 1 = .ok (.iconst 0, 1) := dk_3 (dk_at dksX8_open_0 1 rfl rfl)
theorem dX8_open_2 : decode cX8_open 2 = .ok (.putfield 3, 3) := dk_181 0 3 (dk_at dksX8_open_0 2 rfl rfl)
theorem dX8_open_5 : decode cX8_open 5 = .ok (.aload_n 0, 1) := dk_42 (dk_at dksX8_open_0 5 rfl rfl)
theorem dX8_open_6 : decode cX8_open 6 = .ok (.invokevirtual 456, 3) := dk_182 1 200 (dk_at dksX8_open_0 6 rfl rfl)
theorem dX8_open_9 : decode cX8_open 9 = .ok (.invokestatic 459, 3) := dk_184 1 203 (dk_at dksX8_open_0 9 rfl rfl)
theorem dX8_open_12 : decode cX8_open 12 = .ok (.ireturn, 1) := dk_172 (dk_at dksX8_open_0 12 rfl rfl)
abbrev cX8_least : ByteArray := prog_19_method_114_code
def yX8_least : MethodName := ⟨RX8, "least", "()I"⟩
def dkwX8_least_2 : List UInt8 := [27, 172]
abbrev dktX8_least_2 : List UInt8 := dkwX8_least_2 ++ []
def dkwX8_least_1 : List UInt8 := [182, 0, 78, 4, 160, 0, 11, 4, 28, 120, 2, 130, 167, 0, 4, 2, 126, 60, 132, 2, 1, 167, 255, 223]
abbrev dktX8_least_1 : List UInt8 := dkwX8_least_1 ++ dktX8_least_2
def dkwX8_least_0 : List UInt8 := [42, 3, 181, 0, 3, 42, 182, 1, 200, 60, 3, 61, 28, 42, 182, 0, 84, 162, 0, 31, 27, 42, 28, 5]
abbrev dktX8_least_0 : List UInt8 := dkwX8_least_0 ++ dktX8_least_1
theorem dksX8_least_0 : cX8_least.data.toList.drop 0 = dktX8_least_0 := by decide +kernel
theorem dksX8_least_1 : cX8_least.data.toList.drop 24 = dktX8_least_1 := dk_seg dksX8_least_0 24 rfl rfl
theorem dksX8_least_2 : cX8_least.data.toList.drop 48 = dktX8_least_2 := dk_seg dksX8_least_1 24 rfl rfl
theorem dX8_least_0 : decode cX8_least 0 = .ok (.aload_n 0, 1) := dk_42 (dk_at dksX8_least_0 0 rfl rfl)
theorem dX8_least_1 : decode cX8_least 1 = .ok (.iconst 0, 1) := dk_3 (dk_at dksX8_least_0 1 rfl rfl)
theorem dX8_least_2 : decode cX8_least 2 = .ok (.putfield 3, 3) := dk_181 0 3 (dk_at dksX8_least_0 2 rfl rfl)
theorem dX8_least_5 : decode cX8_least 5 = .ok (.aload_n 0, 1) := dk_42 (dk_at dksX8_least_0 5 rfl rfl)
theorem dX8_least_6 : decode cX8_least 6 = .ok (.invokevirtual 456, 3) := dk_182 1 200 (dk_at dksX8_least_0 6 rfl rfl)
theorem dX8_least_9 : decode cX8_least 9 = .ok (.istore_n 1, 1) := dk_60 (dk_at dksX8_least_0 9 rfl rfl)
theorem dX8_least_10 : decode cX8_least 10 = .ok (.iconst 0, 1) := dk_3 (dk_at dksX8_least_0 10 rfl rfl)
theorem dX8_least_11 : decode cX8_least 11 = .ok (.istore_n 2, 1) := dk_61 (dk_at dksX8_least_0 11 rfl rfl)
theorem dX8_least_12 : decode cX8_least 12 = .ok (.iload_n 2, 1) := dk_28 (dk_at dksX8_least_0 12 rfl rfl)
theorem dX8_least_13 : decode cX8_least 13 = .ok (.aload_n 0, 1) := dk_42 (dk_at dksX8_least_0 13 rfl rfl)
theorem dX8_least_14 : decode cX8_least 14 = .ok (.invokevirtual 84, 3) := dk_182 0 84 (dk_at dksX8_least_0 14 rfl rfl)
theorem dX8_least_17 : decode cX8_least 17 = .ok (.if_icmp .ge 31, 3) := dk_162 0 31 (dk_at dksX8_least_0 17 rfl rfl)
theorem dX8_least_20 : decode cX8_least 20 = .ok (.iload_n 1, 1) := dk_27 (dk_at dksX8_least_0 20 rfl rfl)
theorem dX8_least_21 : decode cX8_least 21 = .ok (.aload_n 0, 1) := dk_42 (dk_at dksX8_least_0 21 rfl rfl)
theorem dX8_least_22 : decode cX8_least 22 = .ok (.iload_n 2, 1) := dk_28 (dk_at dksX8_least_0 22 rfl rfl)
theorem dX8_least_23 : decode cX8_least 23 = .ok (.iconst 2, 1) := dk_5 (dk_at dksX8_least_0 23 rfl rfl)
theorem dX8_least_24 : decode cX8_least 24 = .ok (.invokevirtual 78, 3) := dk_182 0 78 (dk_at dksX8_least_1 0 rfl rfl)
theorem dX8_least_27 : decode cX8_least 27 = .ok (.iconst 1, 1) := dk_4 (dk_at dksX8_least_1 3 rfl rfl)
theorem dX8_least_28 : decode cX8_least 28 = .ok (.if_icmp .ne 11, 3) := dk_160 0 11 (dk_at dksX8_least_1 4 rfl rfl)
theorem dX8_least_31 : decode cX8_least 31 = .ok (.iconst 1, 1) := dk_4 (dk_at dksX8_least_1 7 rfl rfl)
theorem dX8_least_32 : decode cX8_least 32 = .ok (.iload_n 2, 1) := dk_28 (dk_at dksX8_least_1 8 rfl rfl)
theorem dX8_least_33 : decode cX8_least 33 = .ok (.ishl, 1) := dk_120 (dk_at dksX8_least_1 9 rfl rfl)
theorem dX8_least_34 : decode cX8_least 34 = .ok (.iconst (-1), 1) := dk_2 (dk_at dksX8_least_1 10 rfl rfl)
theorem dX8_least_35 : decode cX8_least 35 = .ok (.ixor, 1) := dk_130 (dk_at dksX8_least_1 11 rfl rfl)
theorem dX8_least_36 : decode cX8_least 36 = .ok (.goto 4, 3) := dk_167 0 4 (dk_at dksX8_least_1 12 rfl rfl)
theorem dX8_least_39 : decode cX8_least 39 = .ok (.iconst (-1), 1) := dk_2 (dk_at dksX8_least_1 15 rfl rfl)
theorem dX8_least_40 : decode cX8_least 40 = .ok (.iand, 1) := dk_126 (dk_at dksX8_least_1 16 rfl rfl)
theorem dX8_least_41 : decode cX8_least 41 = .ok (.istore_n 1, 1) := dk_60 (dk_at dksX8_least_1 17 rfl rfl)
theorem dX8_least_42 : decode cX8_least 42 = .ok (.iinc 2 1, 3) := dk_132 2 1 (dk_at dksX8_least_1 18 rfl rfl)
theorem dX8_least_45 : decode cX8_least 45 = .ok (.goto (-33), 3) := dk_167 255 223 (dk_at dksX8_least_1 21 rfl rfl)
theorem dX8_least_48 : decode cX8_least 48 = .ok (.iload_n 1, 1) := dk_27 (dk_at dksX8_least_2 0 rfl rfl)
theorem dX8_least_49 : decode cX8_least 49 = .ok (.ireturn, 1) := dk_172 (dk_at dksX8_least_2 1 rfl rfl)
abbrev cX8_alike : ByteArray := prog_19_method_115_code
def yX8_alike : MethodName := ⟨RX8, "alike", "()Z"⟩
def dkwX8_alike_0 : List UInt8 := [42, 3, 181, 0, 3, 42, 182, 1, 152, 172]
abbrev dktX8_alike_0 : List UInt8 := dkwX8_alike_0 ++ []
theorem dksX8_alike_0 : cX8_alike.data.toList.drop 0 = dktX8_alike_0 := by decide +kernel
theorem dX8_alike_0 : decode cX8_alike 0 = .ok (.aload_n 0, 1) := dk_42 (dk_at dksX8_alike_0 0 rfl rfl)
theorem dX8_alike_1 : decode cX8_alike 1 = .ok (.iconst 0, 1) := dk_3 (dk_at dksX8_alike_0 1 rfl rfl)
theorem dX8_alike_2 : decode cX8_alike 2 = .ok (.putfield 3, 3) := dk_181 0 3 (dk_at dksX8_alike_0 2 rfl rfl)
theorem dX8_alike_5 : decode cX8_alike 5 = .ok (.aload_n 0, 1) := dk_42 (dk_at dksX8_alike_0 5 rfl rfl)
theorem dX8_alike_6 : decode cX8_alike 6 = .ok (.invokevirtual 408, 3) := dk_182 1 152 (dk_at dksX8_alike_0 6 rfl rfl)
theorem dX8_alike_9 : decode cX8_alike 9 = .ok (.ireturn, 1) := dk_172 (dk_at dksX8_alike_0 9 rfl rfl)
abbrev cX8_leaks : ByteArray := prog_19_method_117_code
def yX8_leaks : MethodName := ⟨RX8, "leaks", "()I"⟩
def dkwX8_leaks_0 : List UInt8 := [42, 3, 181, 0, 3, 42, 182, 1, 167, 42, 182, 1, 208, 42, 182, 1, 211, 60, 42, 182, 1, 214, 27, 172]
abbrev dktX8_leaks_0 : List UInt8 := dkwX8_leaks_0 ++ []
theorem dksX8_leaks_0 : cX8_leaks.data.toList.drop 0 = dktX8_leaks_0 := by decide +kernel
theorem dX8_leaks_0 : decode cX8_leaks 0 = .ok (.aload_n 0, 1) := dk_42 (dk_at dksX8_leaks_0 0 rfl rfl)
theorem dX8_leaks_1 : decode cX8_leaks 1 = .ok (.iconst 0, 1) := dk_3 (dk_at dksX8_leaks_0 1 rfl rfl)
theorem dX8_leaks_2 : decode cX8_leaks 2 = .ok (.putfield 3, 3) := dk_181 0 3 (dk_at dksX8_leaks_0 2 rfl rfl)
theorem dX8_leaks_5 : decode cX8_leaks 5 = .ok (.aload_n 0, 1) := dk_42 (dk_at dksX8_leaks_0 5 rfl rfl)
theorem dX8_leaks_6 : decode cX8_leaks 6 = .ok (.invokevirtual 423, 3) := dk_182 1 167 (dk_at dksX8_leaks_0 6 rfl rfl)
theorem dX8_leaks_9 : decode cX8_leaks 9 = .ok (.aload_n 0, 1) := dk_42 (dk_at dksX8_leaks_0 9 rfl rfl)
theorem dX8_leaks_10 : decode cX8_leaks 10 = .ok (.invokevirtual 464, 3) := dk_182 1 208 (dk_at dksX8_leaks_0 10 rfl rfl)
theorem dX8_leaks_13 : decode cX8_leaks 13 = .ok (.aload_n 0, 1) := dk_42 (dk_at dksX8_leaks_0 13 rfl rfl)
theorem dX8_leaks_14 : decode cX8_leaks 14 = .ok (.invokevirtual 467, 3) := dk_182 1 211 (dk_at dksX8_leaks_0 14 rfl rfl)
theorem dX8_leaks_17 : decode cX8_leaks 17 = .ok (.istore_n 1, 1) := dk_60 (dk_at dksX8_leaks_0 17 rfl rfl)
theorem dX8_leaks_18 : decode cX8_leaks 18 = .ok (.aload_n 0, 1) := dk_42 (dk_at dksX8_leaks_0 18 rfl rfl)
theorem dX8_leaks_19 : decode cX8_leaks 19 = .ok (.invokevirtual 470, 3) := dk_182 1 214 (dk_at dksX8_leaks_0 19 rfl rfl)
theorem dX8_leaks_22 : decode cX8_leaks 22 = .ok (.iload_n 1, 1) := dk_27 (dk_at dksX8_leaks_0 22 rfl rfl)
theorem dX8_leaks_23 : decode cX8_leaks 23 = .ok (.ireturn, 1) := dk_172 (dk_at dksX8_leaks_0 23 rfl rfl)
abbrev cX8_keepsAll : ByteArray := prog_19_method_10_code
def yX8_keepsAll : MethodName := ⟨RX8, "keepsAll", "()V"⟩
def dkwX8_keepsAll_1 : List UInt8 := [167, 255, 234, 177]
abbrev dktX8_keepsAll_1 : List UInt8 := dkwX8_keepsAll_1 ++ []
def dkwX8_keepsAll_0 : List UInt8 := [3, 60, 27, 17, 1, 112, 162, 0, 21, 42, 180, 0, 23, 27, 42, 180, 0, 13, 27, 46, 79, 132, 1, 1]
abbrev dktX8_keepsAll_0 : List UInt8 := dkwX8_keepsAll_0 ++ dktX8_keepsAll_1
theorem dksX8_keepsAll_0 : cX8_keepsAll.data.toList.drop 0 = dktX8_keepsAll_0 := by decide +kernel
theorem dksX8_keepsAll_1 : cX8_keepsAll.data.toList.drop 24 = dktX8_keepsAll_1 := dk_seg dksX8_keepsAll_0 24 rfl rfl
theorem dX8_keepsAll_0 : decode cX8_keepsAll 0 = .ok (.iconst 0, 1) := dk_3 (dk_at dksX8_keepsAll_0 0 rfl rfl)
theorem dX8_keepsAll_1 : decode cX8_keepsAll 1 = .ok (.istore_n 1, 1) := dk_60 (dk_at dksX8_keepsAll_0 1 rfl rfl)
theorem dX8_keepsAll_2 : decode cX8_keepsAll 2 = .ok (.iload_n 1, 1) := dk_27 (dk_at dksX8_keepsAll_0 2 rfl rfl)
theorem dX8_keepsAll_3 : decode cX8_keepsAll 3 = .ok (.sipush 368, 3) := dk_17 1 112 (dk_at dksX8_keepsAll_0 3 rfl rfl)
theorem dX8_keepsAll_6 : decode cX8_keepsAll 6 = .ok (.if_icmp .ge 21, 3) := dk_162 0 21 (dk_at dksX8_keepsAll_0 6 rfl rfl)
theorem dX8_keepsAll_9 : decode cX8_keepsAll 9 = .ok (.aload_n 0, 1) := dk_42 (dk_at dksX8_keepsAll_0 9 rfl rfl)
theorem dX8_keepsAll_10 : decode cX8_keepsAll 10 = .ok (.getfield 23, 3) := dk_180 0 23 (dk_at dksX8_keepsAll_0 10 rfl rfl)
theorem dX8_keepsAll_13 : decode cX8_keepsAll 13 = .ok (.iload_n 1, 1) := dk_27 (dk_at dksX8_keepsAll_0 13 rfl rfl)
theorem dX8_keepsAll_14 : decode cX8_keepsAll 14 = .ok (.aload_n 0, 1) := dk_42 (dk_at dksX8_keepsAll_0 14 rfl rfl)
theorem dX8_keepsAll_15 : decode cX8_keepsAll 15 = .ok (.getfield 13, 3) := dk_180 0 13 (dk_at dksX8_keepsAll_0 15 rfl rfl)
theorem dX8_keepsAll_18 : decode cX8_keepsAll 18 = .ok (.iload_n 1, 1) := dk_27 (dk_at dksX8_keepsAll_0 18 rfl rfl)
theorem dX8_keepsAll_19 : decode cX8_keepsAll 19 = .ok (.iaload, 1) := dk_46 (dk_at dksX8_keepsAll_0 19 rfl rfl)
theorem dX8_keepsAll_20 : decode cX8_keepsAll 20 = .ok (.iastore, 1) := dk_79 (dk_at dksX8_keepsAll_0 20 rfl rfl)
theorem dX8_keepsAll_21 : decode cX8_keepsAll 21 = .ok (.iinc 1 1, 3) := dk_132 1 1 (dk_at dksX8_keepsAll_0 21 rfl rfl)
theorem dX8_keepsAll_24 : decode cX8_keepsAll 24 = .ok (.goto (-22), 3) := dk_167 255 234 (dk_at dksX8_keepsAll_1 0 rfl rfl)
theorem dX8_keepsAll_27 : decode cX8_keepsAll 27 = .ok (.return_, 1) := dk_177 (dk_at dksX8_keepsAll_1 3 rfl rfl)
abbrev cX8_leaksAt : ByteArray := prog_19_method_116_code
def yX8_leaksAt : MethodName := ⟨RX8, "leaksAt", "()I"⟩
def dkwX8_leaksAt_2 : List UInt8 := [172]
abbrev dktX8_leaksAt_2 : List UInt8 := dkwX8_leaksAt_2 ++ []
def dkwX8_leaksAt_1 : List UInt8 := [182, 1, 161, 87, 42, 182, 1, 152, 153, 0, 7, 2, 167, 0, 4, 28, 60, 132, 2, 1, 167, 255, 220, 27]
abbrev dktX8_leaksAt_1 : List UInt8 := dkwX8_leaksAt_1 ++ dktX8_leaksAt_2
def dkwX8_leaksAt_0 : List UInt8 := [42, 182, 0, 64, 2, 60, 4, 61, 28, 16, 60, 163, 0, 36, 27, 2, 160, 0, 31, 42, 182, 1, 158, 42]
abbrev dktX8_leaksAt_0 : List UInt8 := dkwX8_leaksAt_0 ++ dktX8_leaksAt_1
theorem dksX8_leaksAt_0 : cX8_leaksAt.data.toList.drop 0 = dktX8_leaksAt_0 := by decide +kernel
theorem dksX8_leaksAt_1 : cX8_leaksAt.data.toList.drop 24 = dktX8_leaksAt_1 := dk_seg dksX8_leaksAt_0 24 rfl rfl
theorem dksX8_leaksAt_2 : cX8_leaksAt.data.toList.drop 48 = dktX8_leaksAt_2 := dk_seg dksX8_leaksAt_1 24 rfl rfl
theorem dX8_leaksAt_0 : decode cX8_leaksAt 0 = .ok (.aload_n 0, 1) := dk_42 (dk_at dksX8_leaksAt_0 0 rfl rfl)
theorem dX8_leaksAt_1 : decode cX8_leaksAt 1 = .ok (.invokevirtual 64, 3) := dk_182 0 64 (dk_at dksX8_leaksAt_0 1 rfl rfl)
theorem dX8_leaksAt_4 : decode cX8_leaksAt 4 = .ok (.iconst (-1), 1) := dk_2 (dk_at dksX8_leaksAt_0 4 rfl rfl)
theorem dX8_leaksAt_5 : decode cX8_leaksAt 5 = .ok (.istore_n 1, 1) := dk_60 (dk_at dksX8_leaksAt_0 5 rfl rfl)
theorem dX8_leaksAt_6 : decode cX8_leaksAt 6 = .ok (.iconst 1, 1) := dk_4 (dk_at dksX8_leaksAt_0 6 rfl rfl)
theorem dX8_leaksAt_7 : decode cX8_leaksAt 7 = .ok (.istore_n 2, 1) := dk_61 (dk_at dksX8_leaksAt_0 7 rfl rfl)
theorem dX8_leaksAt_8 : decode cX8_leaksAt 8 = .ok (.iload_n 2, 1) := dk_28 (dk_at dksX8_leaksAt_0 8 rfl rfl)
theorem dX8_leaksAt_9 : decode cX8_leaksAt 9 = .ok (.bipush 60, 2) := dk_16 60 (dk_at dksX8_leaksAt_0 9 rfl rfl)
theorem dX8_leaksAt_11 : decode cX8_leaksAt 11 = .ok (.if_icmp .gt 36, 3) := dk_163 0 36 (dk_at dksX8_leaksAt_0 11 rfl rfl)
theorem dX8_leaksAt_14 : decode cX8_leaksAt 14 = .ok (.iload_n 1, 1) := dk_27 (dk_at dksX8_leaksAt_0 14 rfl rfl)
theorem dX8_leaksAt_15 : decode cX8_leaksAt 15 = .ok (.iconst (-1), 1) := dk_2 (dk_at dksX8_leaksAt_0 15 rfl rfl)
theorem dX8_leaksAt_16 : decode cX8_leaksAt 16 = .ok (.if_icmp .ne 31, 3) := dk_160 0 31 (dk_at dksX8_leaksAt_0 16 rfl rfl)
theorem dX8_leaksAt_19 : decode cX8_leaksAt 19 = .ok (.aload_n 0, 1) := dk_42 (dk_at dksX8_leaksAt_0 19 rfl rfl)
theorem dX8_leaksAt_20 : decode cX8_leaksAt 20 = .ok (.invokevirtual 414, 3) := dk_182 1 158 (dk_at dksX8_leaksAt_0 20 rfl rfl)
theorem dX8_leaksAt_23 : decode cX8_leaksAt 23 = .ok (.aload_n 0, 1) := dk_42 (dk_at dksX8_leaksAt_0 23 rfl rfl)
theorem dX8_leaksAt_24 : decode cX8_leaksAt 24 = .ok (.invokevirtual 417, 3) := dk_182 1 161 (dk_at dksX8_leaksAt_1 0 rfl rfl)
theorem dX8_leaksAt_27 : decode cX8_leaksAt 27 = .ok (.pop, 1) := dk_87 (dk_at dksX8_leaksAt_1 3 rfl rfl)
theorem dX8_leaksAt_28 : decode cX8_leaksAt 28 = .ok (.aload_n 0, 1) := dk_42 (dk_at dksX8_leaksAt_1 4 rfl rfl)
theorem dX8_leaksAt_29 : decode cX8_leaksAt 29 = .ok (.invokevirtual 408, 3) := dk_182 1 152 (dk_at dksX8_leaksAt_1 5 rfl rfl)
theorem dX8_leaksAt_32 : decode cX8_leaksAt 32 = .ok (.ifCond .eq 7, 3) := dk_153 0 7 (dk_at dksX8_leaksAt_1 8 rfl rfl)
theorem dX8_leaksAt_35 : decode cX8_leaksAt 35 = .ok (.iconst (-1), 1) := dk_2 (dk_at dksX8_leaksAt_1 11 rfl rfl)
theorem dX8_leaksAt_36 : decode cX8_leaksAt 36 = .ok (.goto 4, 3) := dk_167 0 4 (dk_at dksX8_leaksAt_1 12 rfl rfl)
theorem dX8_leaksAt_39 : decode cX8_leaksAt 39 = .ok (.iload_n 2, 1) := dk_28 (dk_at dksX8_leaksAt_1 15 rfl rfl)
theorem dX8_leaksAt_40 : decode cX8_leaksAt 40 = .ok (.istore_n 1, 1) := dk_60 (dk_at dksX8_leaksAt_1 16 rfl rfl)
theorem dX8_leaksAt_41 : decode cX8_leaksAt 41 = .ok (.iinc 2 1, 3) := dk_132 2 1 (dk_at dksX8_leaksAt_1 17 rfl rfl)
theorem dX8_leaksAt_44 : decode cX8_leaksAt 44 = .ok (.goto (-36), 3) := dk_167 255 220 (dk_at dksX8_leaksAt_1 20 rfl rfl)
theorem dX8_leaksAt_47 : decode cX8_leaksAt 47 = .ok (.iload_n 1, 1) := dk_27 (dk_at dksX8_leaksAt_1 23 rfl rfl)
theorem dX8_leaksAt_48 : decode cX8_leaksAt 48 = .ok (.ireturn, 1) := dk_172 (dk_at dksX8_leaksAt_2 0 rfl rfl)
abbrev cX8_bringsBack : ByteArray := prog_19_method_11_code
def yX8_bringsBack : MethodName := ⟨RX8, "bringsBack", "()V"⟩
def dkwX8_bringsBack_1 : List UInt8 := [167, 255, 234, 177]
abbrev dktX8_bringsBack_1 : List UInt8 := dkwX8_bringsBack_1 ++ []
def dkwX8_bringsBack_0 : List UInt8 := [3, 60, 27, 17, 1, 112, 162, 0, 21, 42, 180, 0, 13, 27, 42, 180, 0, 23, 27, 46, 79, 132, 1, 1]
abbrev dktX8_bringsBack_0 : List UInt8 := dkwX8_bringsBack_0 ++ dktX8_bringsBack_1
theorem dksX8_bringsBack_0 : cX8_bringsBack.data.toList.drop 0 = dktX8_bringsBack_0 := by decide +kernel
theorem dksX8_bringsBack_1 : cX8_bringsBack.data.toList.drop 24 = dktX8_bringsBack_1 := dk_seg dksX8_bringsBack_0 24 rfl rfl
theorem dX8_bringsBack_0 : decode cX8_bringsBack 0 = .ok (.iconst 0, 1) := dk_3 (dk_at dksX8_bringsBack_0 0 rfl rfl)
theorem dX8_bringsBack_1 : decode cX8_bringsBack 1 = .ok (.istore_n 1, 1) := dk_60 (dk_at dksX8_bringsBack_0 1 rfl rfl)
theorem dX8_bringsBack_2 : decode cX8_bringsBack 2 = .ok (.iload_n 1, 1) := dk_27 (dk_at dksX8_bringsBack_0 2 rfl rfl)
theorem dX8_bringsBack_3 : decode cX8_bringsBack 3 = .ok (.sipush 368, 3) := dk_17 1 112 (dk_at dksX8_bringsBack_0 3 rfl rfl)
theorem dX8_bringsBack_6 : decode cX8_bringsBack 6 = .ok (.if_icmp .ge 21, 3) := dk_162 0 21 (dk_at dksX8_bringsBack_0 6 rfl rfl)
theorem dX8_bringsBack_9 : decode cX8_bringsBack 9 = .ok (.aload_n 0, 1) := dk_42 (dk_at dksX8_bringsBack_0 9 rfl rfl)
theorem dX8_bringsBack_10 : decode cX8_bringsBack 10 = .ok (.getfield 13, 3) := dk_180 0 13 (dk_at dksX8_bringsBack_0 10 rfl rfl)
theorem dX8_bringsBack_13 : decode cX8_bringsBack 13 = .ok (.iload_n 1, 1) := dk_27 (dk_at dksX8_bringsBack_0 13 rfl rfl)
theorem dX8_bringsBack_14 : decode cX8_bringsBack 14 = .ok (.aload_n 0, 1) := dk_42 (dk_at dksX8_bringsBack_0 14 rfl rfl)
theorem dX8_bringsBack_15 : decode cX8_bringsBack 15 = .ok (.getfield 23, 3) := dk_180 0 23 (dk_at dksX8_bringsBack_0 15 rfl rfl)
theorem dX8_bringsBack_18 : decode cX8_bringsBack 18 = .ok (.iload_n 1, 1) := dk_27 (dk_at dksX8_bringsBack_0 18 rfl rfl)
theorem dX8_bringsBack_19 : decode cX8_bringsBack 19 = .ok (.iaload, 1) := dk_46 (dk_at dksX8_bringsBack_0 19 rfl rfl)
theorem dX8_bringsBack_20 : decode cX8_bringsBack 20 = .ok (.iastore, 1) := dk_79 (dk_at dksX8_bringsBack_0 20 rfl rfl)
theorem dX8_bringsBack_21 : decode cX8_bringsBack 21 = .ok (.iinc 1 1, 3) := dk_132 1 1 (dk_at dksX8_bringsBack_0 21 rfl rfl)
theorem dX8_bringsBack_24 : decode cX8_bringsBack 24 = .ok (.goto (-22), 3) := dk_167 255 234 (dk_at dksX8_bringsBack_1 0 rfl rfl)
theorem dX8_bringsBack_27 : decode cX8_bringsBack 27 = .ok (.return_, 1) := dk_177 (dk_at dksX8_bringsBack_1 3 rfl rfl)
abbrev cX8_traps : ByteArray := prog_19_method_119_code
def yX8_traps : MethodName := ⟨RX8, "traps", "(I)I"⟩
def dkwX8_traps_1 : List UInt8 := [182, 1, 24, 153, 0, 7, 3, 167, 0, 10, 42, 27, 3, 2, 182, 1, 217, 172]
abbrev dktX8_traps_1 : List UInt8 := dkwX8_traps_1 ++ []
def dkwX8_traps_0 : List UInt8 := [42, 3, 181, 0, 3, 42, 27, 3, 16, 60, 184, 0, 88, 154, 0, 7, 4, 167, 0, 4, 3, 4]
abbrev dktX8_traps_0 : List UInt8 := dkwX8_traps_0 ++ dktX8_traps_1
theorem dksX8_traps_0 : cX8_traps.data.toList.drop 0 = dktX8_traps_0 := by decide +kernel
theorem dksX8_traps_1 : cX8_traps.data.toList.drop 22 = dktX8_traps_1 := dk_seg dksX8_traps_0 22 rfl rfl
theorem dX8_traps_0 : decode cX8_traps 0 = .ok (.aload_n 0, 1) := dk_42 (dk_at dksX8_traps_0 0 rfl rfl)
theorem dX8_traps_1 : decode cX8_traps 1 = .ok (.iconst 0, 1) := dk_3 (dk_at dksX8_traps_0 1 rfl rfl)
theorem dX8_traps_2 : decode cX8_traps 2 = .ok (.putfield 3, 3) := dk_181 0 3 (dk_at dksX8_traps_0 2 rfl rfl)
theorem dX8_traps_5 : decode cX8_traps 5 = .ok (.aload_n 0, 1) := dk_42 (dk_at dksX8_traps_0 5 rfl rfl)
theorem dX8_traps_6 : decode cX8_traps 6 = .ok (.iload_n 1, 1) := dk_27 (dk_at dksX8_traps_0 6 rfl rfl)
theorem dX8_traps_7 : decode cX8_traps 7 = .ok (.iconst 0, 1) := dk_3 (dk_at dksX8_traps_0 7 rfl rfl)
theorem dX8_traps_8 : decode cX8_traps 8 = .ok (.bipush 60, 2) := dk_16 60 (dk_at dksX8_traps_0 8 rfl rfl)
theorem dX8_traps_10 : decode cX8_traps 10 = .ok (.invokestatic 88, 3) := dk_184 0 88 (dk_at dksX8_traps_0 10 rfl rfl)
theorem dX8_traps_13 : decode cX8_traps 13 = .ok (.ifCond .ne 7, 3) := dk_154 0 7 (dk_at dksX8_traps_0 13 rfl rfl)
theorem dX8_traps_16 : decode cX8_traps 16 = .ok (.iconst 1, 1) := dk_4 (dk_at dksX8_traps_0 16 rfl rfl)
theorem dX8_traps_17 : decode cX8_traps 17 = .ok (.goto 4, 3) := dk_167 0 4 (dk_at dksX8_traps_0 17 rfl rfl)
theorem dX8_traps_20 : decode cX8_traps 20 = .ok (.iconst 0, 1) := dk_3 (dk_at dksX8_traps_0 20 rfl rfl)
theorem dX8_traps_21 : decode cX8_traps 21 = .ok (.iconst 1, 1) := dk_4 (dk_at dksX8_traps_0 21 rfl rfl)
theorem dX8_traps_22 : decode cX8_traps 22 = .ok (.invokevirtual 280, 3) := dk_182 1 24 (dk_at dksX8_traps_1 0 rfl rfl)
theorem dX8_traps_25 : decode cX8_traps 25 = .ok (.ifCond .eq 7, 3) := dk_153 0 7 (dk_at dksX8_traps_1 3 rfl rfl)
theorem dX8_traps_28 : decode cX8_traps 28 = .ok (.iconst 0, 1) := dk_3 (dk_at dksX8_traps_1 6 rfl rfl)
theorem dX8_traps_29 : decode cX8_traps 29 = .ok (.goto 10, 3) := dk_167 0 10 (dk_at dksX8_traps_1 7 rfl rfl)
theorem dX8_traps_32 : decode cX8_traps 32 = .ok (.aload_n 0, 1) := dk_42 (dk_at dksX8_traps_1 10 rfl rfl)
theorem dX8_traps_33 : decode cX8_traps 33 = .ok (.iload_n 1, 1) := dk_27 (dk_at dksX8_traps_1 11 rfl rfl)
theorem dX8_traps_34 : decode cX8_traps 34 = .ok (.iconst 0, 1) := dk_3 (dk_at dksX8_traps_1 12 rfl rfl)
theorem dX8_traps_35 : decode cX8_traps 35 = .ok (.iconst (-1), 1) := dk_2 (dk_at dksX8_traps_1 13 rfl rfl)
theorem dX8_traps_36 : decode cX8_traps 36 = .ok (.invokevirtual 473, 3) := dk_182 1 217 (dk_at dksX8_traps_1 14 rfl rfl)
theorem dX8_traps_39 : decode cX8_traps 39 = .ok (.ireturn, 1) := dk_172 (dk_at dksX8_traps_1 17 rfl rfl)
abbrev cX8_depthOf : ByteArray := prog_19_method_118_code
def yX8_depthOf : MethodName := ⟨RX8, "depthOf", "(III)I"⟩
def dkwX8_depthOf_4 : List UInt8 := [167, 255, 180, 42, 182, 1, 214, 21, 4, 172]
abbrev dktX8_depthOf_4 : List UInt8 := dkwX8_depthOf_4 ++ []
def dkwX8_depthOf_3 : List UInt8 := [167, 0, 15, 29, 42, 21, 6, 182, 1, 149, 104, 167, 0, 4, 3, 96, 96, 54, 4, 132, 5, 1]
abbrev dktX8_depthOf_3 : List UInt8 := dkwX8_depthOf_3 ++ dktX8_depthOf_4
def dkwX8_depthOf_2 : List UInt8 := [42, 182, 1, 161, 3, 4, 184, 0, 88, 54, 7, 21, 4, 28, 21, 7, 153, 0, 22, 29, 156, 0, 7, 4]
abbrev dktX8_depthOf_2 : List UInt8 := dkwX8_depthOf_2 ++ dktX8_depthOf_3
def dkwX8_depthOf_1 : List UInt8 := [42, 4, 182, 1, 136, 154, 0, 68, 42, 180, 0, 13, 16, 12, 42, 4, 3, 182, 1, 128, 96, 46, 54, 6]
abbrev dktX8_depthOf_1 : List UInt8 := dkwX8_depthOf_1 ++ dktX8_depthOf_2
def dkwX8_depthOf_0 : List UInt8 := [42, 182, 1, 167, 42, 182, 1, 208, 42, 182, 0, 64, 3, 54, 4, 3, 54, 5, 21, 5, 27, 162, 0, 76]
abbrev dktX8_depthOf_0 : List UInt8 := dkwX8_depthOf_0 ++ dktX8_depthOf_1
theorem dksX8_depthOf_0 : cX8_depthOf.data.toList.drop 0 = dktX8_depthOf_0 := by decide +kernel
theorem dksX8_depthOf_1 : cX8_depthOf.data.toList.drop 24 = dktX8_depthOf_1 := dk_seg dksX8_depthOf_0 24 rfl rfl
theorem dksX8_depthOf_2 : cX8_depthOf.data.toList.drop 48 = dktX8_depthOf_2 := dk_seg dksX8_depthOf_1 24 rfl rfl
theorem dksX8_depthOf_3 : cX8_depthOf.data.toList.drop 72 = dktX8_depthOf_3 := dk_seg dksX8_depthOf_2 24 rfl rfl
theorem dksX8_depthOf_4 : cX8_depthOf.data.toList.drop 94 = dktX8_depthOf_4 := dk_seg dksX8_depthOf_3 22 rfl rfl
theorem dX8_depthOf_0 : decode cX8_depthOf 0 = .ok (.aload_n 0, 1) := dk_42 (dk_at dksX8_depthOf_0 0 rfl rfl)
theorem dX8_depthOf_1 : decode cX8_depthOf 1 = .ok (.invokevirtual 423, 3) := dk_182 1 167 (dk_at dksX8_depthOf_0 1 rfl rfl)
theorem dX8_depthOf_4 : decode cX8_depthOf 4 = .ok (.aload_n 0, 1) := dk_42 (dk_at dksX8_depthOf_0 4 rfl rfl)
theorem dX8_depthOf_5 : decode cX8_depthOf 5 = .ok (.invokevirtual 464, 3) := dk_182 1 208 (dk_at dksX8_depthOf_0 5 rfl rfl)
theorem dX8_depthOf_8 : decode cX8_depthOf 8 = .ok (.aload_n 0, 1) := dk_42 (dk_at dksX8_depthOf_0 8 rfl rfl)
theorem dX8_depthOf_9 : decode cX8_depthOf 9 = .ok (.invokevirtual 64, 3) := dk_182 0 64 (dk_at dksX8_depthOf_0 9 rfl rfl)
theorem dX8_depthOf_12 : decode cX8_depthOf 12 = .ok (.iconst 0, 1) := dk_3 (dk_at dksX8_depthOf_0 12 rfl rfl)
theorem dX8_depthOf_13 : decode cX8_depthOf 13 = .ok (.istore 4, 2) := dk_54 4 (dk_at dksX8_depthOf_0 13 rfl rfl)
theorem dX8_depthOf_15 : decode cX8_depthOf 15 = .ok (.iconst 0, 1) := dk_3 (dk_at dksX8_depthOf_0 15 rfl rfl)
theorem dX8_depthOf_16 : decode cX8_depthOf 16 = .ok (.istore 5, 2) := dk_54 5 (dk_at dksX8_depthOf_0 16 rfl rfl)
theorem dX8_depthOf_18 : decode cX8_depthOf 18 = .ok (.iload 5, 2) := dk_21 5 (dk_at dksX8_depthOf_0 18 rfl rfl)
theorem dX8_depthOf_20 : decode cX8_depthOf 20 = .ok (.iload_n 1, 1) := dk_27 (dk_at dksX8_depthOf_0 20 rfl rfl)
theorem dX8_depthOf_21 : decode cX8_depthOf 21 = .ok (.if_icmp .ge 76, 3) := dk_162 0 76 (dk_at dksX8_depthOf_0 21 rfl rfl)
theorem dX8_depthOf_24 : decode cX8_depthOf 24 = .ok (.aload_n 0, 1) := dk_42 (dk_at dksX8_depthOf_1 0 rfl rfl)
theorem dX8_depthOf_25 : decode cX8_depthOf 25 = .ok (.iconst 1, 1) := dk_4 (dk_at dksX8_depthOf_1 1 rfl rfl)
theorem dX8_depthOf_26 : decode cX8_depthOf 26 = .ok (.invokevirtual 392, 3) := dk_182 1 136 (dk_at dksX8_depthOf_1 2 rfl rfl)
theorem dX8_depthOf_29 : decode cX8_depthOf 29 = .ok (.ifCond .ne 68, 3) := dk_154 0 68 (dk_at dksX8_depthOf_1 5 rfl rfl)
theorem dX8_depthOf_32 : decode cX8_depthOf 32 = .ok (.aload_n 0, 1) := dk_42 (dk_at dksX8_depthOf_1 8 rfl rfl)
theorem dX8_depthOf_33 : decode cX8_depthOf 33 = .ok (.getfield 13, 3) := dk_180 0 13 (dk_at dksX8_depthOf_1 9 rfl rfl)
theorem dX8_depthOf_36 : decode cX8_depthOf 36 = .ok (.bipush 12, 2) := dk_16 12 (dk_at dksX8_depthOf_1 12 rfl rfl)
theorem dX8_depthOf_38 : decode cX8_depthOf 38 = .ok (.aload_n 0, 1) := dk_42 (dk_at dksX8_depthOf_1 14 rfl rfl)
theorem dX8_depthOf_39 : decode cX8_depthOf 39 = .ok (.iconst 1, 1) := dk_4 (dk_at dksX8_depthOf_1 15 rfl rfl)
theorem dX8_depthOf_40 : decode cX8_depthOf 40 = .ok (.iconst 0, 1) := dk_3 (dk_at dksX8_depthOf_1 16 rfl rfl)
theorem dX8_depthOf_41 : decode cX8_depthOf 41 = .ok (.invokevirtual 384, 3) := dk_182 1 128 (dk_at dksX8_depthOf_1 17 rfl rfl)
theorem dX8_depthOf_44 : decode cX8_depthOf 44 = .ok (.iadd, 1) := dk_96 (dk_at dksX8_depthOf_1 20 rfl rfl)
theorem dX8_depthOf_45 : decode cX8_depthOf 45 = .ok (.iaload, 1) := dk_46 (dk_at dksX8_depthOf_1 21 rfl rfl)
theorem dX8_depthOf_46 : decode cX8_depthOf 46 = .ok (.istore 6, 2) := dk_54 6 (dk_at dksX8_depthOf_1 22 rfl rfl)
theorem dX8_depthOf_48 : decode cX8_depthOf 48 = .ok (.aload_n 0, 1) := dk_42 (dk_at dksX8_depthOf_2 0 rfl rfl)
theorem dX8_depthOf_49 : decode cX8_depthOf 49 = .ok (.invokevirtual 417, 3) := dk_182 1 161 (dk_at dksX8_depthOf_2 1 rfl rfl)
theorem dX8_depthOf_52 : decode cX8_depthOf 52 = .ok (.iconst 0, 1) := dk_3 (dk_at dksX8_depthOf_2 4 rfl rfl)
theorem dX8_depthOf_53 : decode cX8_depthOf 53 = .ok (.iconst 1, 1) := dk_4 (dk_at dksX8_depthOf_2 5 rfl rfl)
theorem dX8_depthOf_54 : decode cX8_depthOf 54 = .ok (.invokestatic 88, 3) := dk_184 0 88 (dk_at dksX8_depthOf_2 6 rfl rfl)
theorem dX8_depthOf_57 : decode cX8_depthOf 57 = .ok (.istore 7, 2) := dk_54 7 (dk_at dksX8_depthOf_2 9 rfl rfl)
theorem dX8_depthOf_59 : decode cX8_depthOf 59 = .ok (.iload 4, 2) := dk_21 4 (dk_at dksX8_depthOf_2 11 rfl rfl)
theorem dX8_depthOf_61 : decode cX8_depthOf 61 = .ok (.iload_n 2, 1) := dk_28 (dk_at dksX8_depthOf_2 13 rfl rfl)
theorem dX8_depthOf_62 : decode cX8_depthOf 62 = .ok (.iload 7, 2) := dk_21 7 (dk_at dksX8_depthOf_2 14 rfl rfl)
theorem dX8_depthOf_64 : decode cX8_depthOf 64 = .ok (.ifCond .eq 22, 3) := dk_153 0 22 (dk_at dksX8_depthOf_2 16 rfl rfl)
theorem dX8_depthOf_67 : decode cX8_depthOf 67 = .ok (.iload_n 3, 1) := dk_29 (dk_at dksX8_depthOf_2 19 rfl rfl)
theorem dX8_depthOf_68 : decode cX8_depthOf 68 = .ok (.ifCond .ge 7, 3) := dk_156 0 7 (dk_at dksX8_depthOf_2 20 rfl rfl)
theorem dX8_depthOf_71 : decode cX8_depthOf 71 = .ok (.iconst 1, 1) := dk_4 (dk_at dksX8_depthOf_2 23 rfl rfl)
theorem dX8_depthOf_72 : decode cX8_depthOf 72 = .ok (.goto 15, 3) := dk_167 0 15 (dk_at dksX8_depthOf_3 0 rfl rfl)
theorem dX8_depthOf_75 : decode cX8_depthOf 75 = .ok (.iload_n 3, 1) := dk_29 (dk_at dksX8_depthOf_3 3 rfl rfl)
theorem dX8_depthOf_76 : decode cX8_depthOf 76 = .ok (.aload_n 0, 1) := dk_42 (dk_at dksX8_depthOf_3 4 rfl rfl)
theorem dX8_depthOf_77 : decode cX8_depthOf 77 = .ok (.iload 6, 2) := dk_21 6 (dk_at dksX8_depthOf_3 5 rfl rfl)
theorem dX8_depthOf_79 : decode cX8_depthOf 79 = .ok (.invokevirtual 405, 3) := dk_182 1 149 (dk_at dksX8_depthOf_3 7 rfl rfl)
theorem dX8_depthOf_82 : decode cX8_depthOf 82 = .ok (.imul, 1) := dk_104 (dk_at dksX8_depthOf_3 10 rfl rfl)
theorem dX8_depthOf_83 : decode cX8_depthOf 83 = .ok (.goto 4, 3) := dk_167 0 4 (dk_at dksX8_depthOf_3 11 rfl rfl)
theorem dX8_depthOf_86 : decode cX8_depthOf 86 = .ok (.iconst 0, 1) := dk_3 (dk_at dksX8_depthOf_3 14 rfl rfl)
theorem dX8_depthOf_87 : decode cX8_depthOf 87 = .ok (.iadd, 1) := dk_96 (dk_at dksX8_depthOf_3 15 rfl rfl)
theorem dX8_depthOf_88 : decode cX8_depthOf 88 = .ok (.iadd, 1) := dk_96 (dk_at dksX8_depthOf_3 16 rfl rfl)
theorem dX8_depthOf_89 : decode cX8_depthOf 89 = .ok (.istore 4, 2) := dk_54 4 (dk_at dksX8_depthOf_3 17 rfl rfl)
theorem dX8_depthOf_91 : decode cX8_depthOf 91 = .ok (.iinc 5 1, 3) := dk_132 5 1 (dk_at dksX8_depthOf_3 19 rfl rfl)
theorem dX8_depthOf_94 : decode cX8_depthOf 94 = .ok (.goto (-76), 3) := dk_167 255 180 (dk_at dksX8_depthOf_4 0 rfl rfl)
theorem dX8_depthOf_97 : decode cX8_depthOf 97 = .ok (.aload_n 0, 1) := dk_42 (dk_at dksX8_depthOf_4 3 rfl rfl)
theorem dX8_depthOf_98 : decode cX8_depthOf 98 = .ok (.invokevirtual 470, 3) := dk_182 1 214 (dk_at dksX8_depthOf_4 4 rfl rfl)
theorem dX8_depthOf_101 : decode cX8_depthOf 101 = .ok (.iload 4, 2) := dk_21 4 (dk_at dksX8_depthOf_4 7 rfl rfl)
theorem dX8_depthOf_103 : decode cX8_depthOf 103 = .ok (.ireturn, 1) := dk_172 (dk_at dksX8_depthOf_4 9 rfl rfl)
abbrev cX8_depth : ByteArray := prog_19_method_120_code
def yX8_depth : MethodName := ⟨RX8, "depth", "(II)I"⟩
def dkwX8_depth_2 : List UInt8 := [182, 1, 217, 172]
abbrev dktX8_depth_2 : List UInt8 := dkwX8_depth_2 ++ []
def dkwX8_depth_1 : List UInt8 := [154, 0, 7, 4, 167, 0, 4, 3, 4, 182, 1, 24, 153, 0, 7, 3, 167, 0, 10, 42, 27, 4, 28]
abbrev dktX8_depth_1 : List UInt8 := dkwX8_depth_1 ++ dktX8_depth_2
def dkwX8_depth_0 : List UInt8 := [42, 3, 181, 0, 3, 42, 27, 3, 16, 60, 184, 0, 88, 153, 0, 12, 28, 3, 8, 184, 0, 88]
abbrev dktX8_depth_0 : List UInt8 := dkwX8_depth_0 ++ dktX8_depth_1
theorem dksX8_depth_0 : cX8_depth.data.toList.drop 0 = dktX8_depth_0 := by decide +kernel
theorem dksX8_depth_1 : cX8_depth.data.toList.drop 22 = dktX8_depth_1 := dk_seg dksX8_depth_0 22 rfl rfl
theorem dksX8_depth_2 : cX8_depth.data.toList.drop 45 = dktX8_depth_2 := dk_seg dksX8_depth_1 23 rfl rfl
theorem dX8_depth_0 : decode cX8_depth 0 = .ok (.aload_n 0, 1) := dk_42 (dk_at dksX8_depth_0 0 rfl rfl)
theorem dX8_depth_1 : decode cX8_depth 1 = .ok (.iconst 0, 1) := dk_3 (dk_at dksX8_depth_0 1 rfl rfl)
theorem dX8_depth_2 : decode cX8_depth 2 = .ok (.putfield 3, 3) := dk_181 0 3 (dk_at dksX8_depth_0 2 rfl rfl)
theorem dX8_depth_5 : decode cX8_depth 5 = .ok (.aload_n 0, 1) := dk_42 (dk_at dksX8_depth_0 5 rfl rfl)
theorem dX8_depth_6 : decode cX8_depth 6 = .ok (.iload_n 1, 1) := dk_27 (dk_at dksX8_depth_0 6 rfl rfl)
theorem dX8_depth_7 : decode cX8_depth 7 = .ok (.iconst 0, 1) := dk_3 (dk_at dksX8_depth_0 7 rfl rfl)
theorem dX8_depth_8 : decode cX8_depth 8 = .ok (.bipush 60, 2) := dk_16 60 (dk_at dksX8_depth_0 8 rfl rfl)
theorem dX8_depth_10 : decode cX8_depth 10 = .ok (.invokestatic 88, 3) := dk_184 0 88 (dk_at dksX8_depth_0 10 rfl rfl)
theorem dX8_depth_13 : decode cX8_depth 13 = .ok (.ifCond .eq 12, 3) := dk_153 0 12 (dk_at dksX8_depth_0 13 rfl rfl)
theorem dX8_depth_16 : decode cX8_depth 16 = .ok (.iload_n 2, 1) := dk_28 (dk_at dksX8_depth_0 16 rfl rfl)
theorem dX8_depth_17 : decode cX8_depth 17 = .ok (.iconst 0, 1) := dk_3 (dk_at dksX8_depth_0 17 rfl rfl)
theorem dX8_depth_18 : decode cX8_depth 18 = .ok (.iconst 5, 1) := dk_8 (dk_at dksX8_depth_0 18 rfl rfl)
theorem dX8_depth_19 : decode cX8_depth 19 = .ok (.invokestatic 88, 3) := dk_184 0 88 (dk_at dksX8_depth_0 19 rfl rfl)
theorem dX8_depth_22 : decode cX8_depth 22 = .ok (.ifCond .ne 7, 3) := dk_154 0 7 (dk_at dksX8_depth_1 0 rfl rfl)
theorem dX8_depth_25 : decode cX8_depth 25 = .ok (.iconst 1, 1) := dk_4 (dk_at dksX8_depth_1 3 rfl rfl)
theorem dX8_depth_26 : decode cX8_depth 26 = .ok (.goto 4, 3) := dk_167 0 4 (dk_at dksX8_depth_1 4 rfl rfl)
theorem dX8_depth_29 : decode cX8_depth 29 = .ok (.iconst 0, 1) := dk_3 (dk_at dksX8_depth_1 7 rfl rfl)
theorem dX8_depth_30 : decode cX8_depth 30 = .ok (.iconst 1, 1) := dk_4 (dk_at dksX8_depth_1 8 rfl rfl)
theorem dX8_depth_31 : decode cX8_depth 31 = .ok (.invokevirtual 280, 3) := dk_182 1 24 (dk_at dksX8_depth_1 9 rfl rfl)
theorem dX8_depth_34 : decode cX8_depth 34 = .ok (.ifCond .eq 7, 3) := dk_153 0 7 (dk_at dksX8_depth_1 12 rfl rfl)
theorem dX8_depth_37 : decode cX8_depth 37 = .ok (.iconst 0, 1) := dk_3 (dk_at dksX8_depth_1 15 rfl rfl)
theorem dX8_depth_38 : decode cX8_depth 38 = .ok (.goto 10, 3) := dk_167 0 10 (dk_at dksX8_depth_1 16 rfl rfl)
theorem dX8_depth_41 : decode cX8_depth 41 = .ok (.aload_n 0, 1) := dk_42 (dk_at dksX8_depth_1 19 rfl rfl)
theorem dX8_depth_42 : decode cX8_depth 42 = .ok (.iload_n 1, 1) := dk_27 (dk_at dksX8_depth_1 20 rfl rfl)
theorem dX8_depth_43 : decode cX8_depth 43 = .ok (.iconst 1, 1) := dk_4 (dk_at dksX8_depth_1 21 rfl rfl)
theorem dX8_depth_44 : decode cX8_depth 44 = .ok (.iload_n 2, 1) := dk_28 (dk_at dksX8_depth_1 22 rfl rfl)
theorem dX8_depth_45 : decode cX8_depth 45 = .ok (.invokevirtual 473, 3) := dk_182 1 217 (dk_at dksX8_depth_2 0 rfl rfl)
theorem dX8_depth_48 : decode cX8_depth 48 = .ok (.ireturn, 1) := dk_172 (dk_at dksX8_depth_2 3 rfl rfl)
abbrev cX8_proof : ByteArray := prog_19_method_122_code
def yX8_proof : MethodName := ⟨RX8, "proof", "()I"⟩
def dkwX8_proof_5 : List UInt8 := [167, 255, 186, 132, 3, 1, 167, 255, 160, 42, 182, 1, 214, 27, 172]
abbrev dktX8_proof_5 : List UInt8 := dkwX8_proof_5 ++ []
def dkwX8_proof_4 : List UInt8 := [46, 96, 4, 96, 60, 132, 5, 1, 167, 255, 229, 27, 17, 3, 232, 29, 104, 96, 60, 132, 4, 1]
abbrev dktX8_proof_4 : List UInt8 := dkwX8_proof_4 ++ dktX8_proof_5
def dkwX8_proof_3 : List UInt8 := [3, 60, 3, 54, 5, 21, 5, 29, 162, 0, 27, 16, 10, 27, 104, 42, 180, 0, 13, 16, 12, 21, 5, 96]
abbrev dktX8_proof_3 : List UInt8 := dkwX8_proof_3 ++ dktX8_proof_4
def dkwX8_proof_2 : List UInt8 := [21, 4, 28, 162, 0, 70, 27, 2, 160, 0, 65, 42, 29, 21, 4, 182, 1, 220, 154, 0, 6, 167, 0, 46]
abbrev dktX8_proof_2 : List UInt8 := dkwX8_proof_2 ++ dktX8_proof_3
def dkwX8_proof_1 : List UInt8 := [4, 61, 4, 62, 29, 6, 163, 0, 97, 27, 2, 160, 0, 92, 28, 42, 182, 0, 84, 104, 61, 3, 54, 4]
abbrev dktX8_proof_1 : List UInt8 := dkwX8_proof_1 ++ dktX8_proof_2
def dkwX8_proof_0 : List UInt8 := [42, 3, 181, 0, 3, 42, 182, 0, 84, 154, 0, 5, 2, 172, 42, 182, 1, 167, 42, 182, 1, 208, 2, 60]
abbrev dktX8_proof_0 : List UInt8 := dkwX8_proof_0 ++ dktX8_proof_1
theorem dksX8_proof_0 : cX8_proof.data.toList.drop 0 = dktX8_proof_0 := by decide +kernel
theorem dksX8_proof_1 : cX8_proof.data.toList.drop 24 = dktX8_proof_1 := dk_seg dksX8_proof_0 24 rfl rfl
theorem dksX8_proof_2 : cX8_proof.data.toList.drop 48 = dktX8_proof_2 := dk_seg dksX8_proof_1 24 rfl rfl
theorem dksX8_proof_3 : cX8_proof.data.toList.drop 72 = dktX8_proof_3 := dk_seg dksX8_proof_2 24 rfl rfl
theorem dksX8_proof_4 : cX8_proof.data.toList.drop 96 = dktX8_proof_4 := dk_seg dksX8_proof_3 24 rfl rfl
theorem dksX8_proof_5 : cX8_proof.data.toList.drop 118 = dktX8_proof_5 := dk_seg dksX8_proof_4 22 rfl rfl
theorem dX8_proof_0 : decode cX8_proof 0 = .ok (.aload_n 0, 1) := dk_42 (dk_at dksX8_proof_0 0 rfl rfl)
theorem dX8_proof_1 : decode cX8_proof 1 = .ok (.iconst 0, 1) := dk_3 (dk_at dksX8_proof_0 1 rfl rfl)
theorem dX8_proof_2 : decode cX8_proof 2 = .ok (.putfield 3, 3) := dk_181 0 3 (dk_at dksX8_proof_0 2 rfl rfl)
theorem dX8_proof_5 : decode cX8_proof 5 = .ok (.aload_n 0, 1) := dk_42 (dk_at dksX8_proof_0 5 rfl rfl)
theorem dX8_proof_6 : decode cX8_proof 6 = .ok (.invokevirtual 84, 3) := dk_182 0 84 (dk_at dksX8_proof_0 6 rfl rfl)
theorem dX8_proof_9 : decode cX8_proof 9 = .ok (.ifCond .ne 5, 3) := dk_154 0 5 (dk_at dksX8_proof_0 9 rfl rfl)
theorem dX8_proof_12 : decode cX8_proof 12 = .ok (.iconst (-1), 1) := dk_2 (dk_at dksX8_proof_0 12 rfl rfl)
theorem dX8_proof_13 : decode cX8_proof 13 = .ok (.ireturn, 1) := dk_172 (dk_at dksX8_proof_0 13 rfl rfl)
theorem dX8_proof_14 : decode cX8_proof 14 = .ok (.aload_n 0, 1) := dk_42 (dk_at dksX8_proof_0 14 rfl rfl)
theorem dX8_proof_15 : decode cX8_proof 15 = .ok (.invokevirtual 423, 3) := dk_182 1 167 (dk_at dksX8_proof_0 15 rfl rfl)
theorem dX8_proof_18 : decode cX8_proof 18 = .ok (.aload_n 0, 1) := dk_42 (dk_at dksX8_proof_0 18 rfl rfl)
theorem dX8_proof_19 : decode cX8_proof 19 = .ok (.invokevirtual 464, 3) := dk_182 1 208 (dk_at dksX8_proof_0 19 rfl rfl)
theorem dX8_proof_22 : decode cX8_proof 22 = .ok (.iconst (-1), 1) := dk_2 (dk_at dksX8_proof_0 22 rfl rfl)
theorem dX8_proof_23 : decode cX8_proof 23 = .ok (.istore_n 1, 1) := dk_60 (dk_at dksX8_proof_0 23 rfl rfl)
theorem dX8_proof_24 : decode cX8_proof 24 = .ok (.iconst 1, 1) := dk_4 (dk_at dksX8_proof_1 0 rfl rfl)
theorem dX8_proof_25 : decode cX8_proof 25 = .ok (.istore_n 2, 1) := dk_61 (dk_at dksX8_proof_1 1 rfl rfl)
theorem dX8_proof_26 : decode cX8_proof 26 = .ok (.iconst 1, 1) := dk_4 (dk_at dksX8_proof_1 2 rfl rfl)
theorem dX8_proof_27 : decode cX8_proof 27 = .ok (.istore_n 3, 1) := dk_62 (dk_at dksX8_proof_1 3 rfl rfl)
theorem dX8_proof_28 : decode cX8_proof 28 = .ok (.iload_n 3, 1) := dk_29 (dk_at dksX8_proof_1 4 rfl rfl)
theorem dX8_proof_29 : decode cX8_proof 29 = .ok (.iconst 3, 1) := dk_6 (dk_at dksX8_proof_1 5 rfl rfl)
theorem dX8_proof_30 : decode cX8_proof 30 = .ok (.if_icmp .gt 97, 3) := dk_163 0 97 (dk_at dksX8_proof_1 6 rfl rfl)
theorem dX8_proof_33 : decode cX8_proof 33 = .ok (.iload_n 1, 1) := dk_27 (dk_at dksX8_proof_1 9 rfl rfl)
theorem dX8_proof_34 : decode cX8_proof 34 = .ok (.iconst (-1), 1) := dk_2 (dk_at dksX8_proof_1 10 rfl rfl)
theorem dX8_proof_35 : decode cX8_proof 35 = .ok (.if_icmp .ne 92, 3) := dk_160 0 92 (dk_at dksX8_proof_1 11 rfl rfl)
theorem dX8_proof_38 : decode cX8_proof 38 = .ok (.iload_n 2, 1) := dk_28 (dk_at dksX8_proof_1 14 rfl rfl)
theorem dX8_proof_39 : decode cX8_proof 39 = .ok (.aload_n 0, 1) := dk_42 (dk_at dksX8_proof_1 15 rfl rfl)
theorem dX8_proof_40 : decode cX8_proof 40 = .ok (.invokevirtual 84, 3) := dk_182 0 84 (dk_at dksX8_proof_1 16 rfl rfl)
theorem dX8_proof_43 : decode cX8_proof 43 = .ok (.imul, 1) := dk_104 (dk_at dksX8_proof_1 19 rfl rfl)
theorem dX8_proof_44 : decode cX8_proof 44 = .ok (.istore_n 2, 1) := dk_61 (dk_at dksX8_proof_1 20 rfl rfl)
theorem dX8_proof_45 : decode cX8_proof 45 = .ok (.iconst 0, 1) := dk_3 (dk_at dksX8_proof_1 21 rfl rfl)
theorem dX8_proof_46 : decode cX8_proof 46 = .ok (.istore 4, 2) := dk_54 4 (dk_at dksX8_proof_1 22 rfl rfl)
theorem dX8_proof_48 : decode cX8_proof 48 = .ok (.iload 4, 2) := dk_21 4 (dk_at dksX8_proof_2 0 rfl rfl)
theorem dX8_proof_50 : decode cX8_proof 50 = .ok (.iload_n 2, 1) := dk_28 (dk_at dksX8_proof_2 2 rfl rfl)
theorem dX8_proof_51 : decode cX8_proof 51 = .ok (.if_icmp .ge 70, 3) := dk_162 0 70 (dk_at dksX8_proof_2 3 rfl rfl)
theorem dX8_proof_54 : decode cX8_proof 54 = .ok (.iload_n 1, 1) := dk_27 (dk_at dksX8_proof_2 6 rfl rfl)
theorem dX8_proof_55 : decode cX8_proof 55 = .ok (.iconst (-1), 1) := dk_2 (dk_at dksX8_proof_2 7 rfl rfl)
theorem dX8_proof_56 : decode cX8_proof 56 = .ok (.if_icmp .ne 65, 3) := dk_160 0 65 (dk_at dksX8_proof_2 8 rfl rfl)
theorem dX8_proof_59 : decode cX8_proof 59 = .ok (.aload_n 0, 1) := dk_42 (dk_at dksX8_proof_2 11 rfl rfl)
theorem dX8_proof_60 : decode cX8_proof 60 = .ok (.iload_n 3, 1) := dk_29 (dk_at dksX8_proof_2 12 rfl rfl)
theorem dX8_proof_61 : decode cX8_proof 61 = .ok (.iload 4, 2) := dk_21 4 (dk_at dksX8_proof_2 13 rfl rfl)
theorem dX8_proof_63 : decode cX8_proof 63 = .ok (.invokevirtual 476, 3) := dk_182 1 220 (dk_at dksX8_proof_2 15 rfl rfl)
theorem dX8_proof_66 : decode cX8_proof 66 = .ok (.ifCond .ne 6, 3) := dk_154 0 6 (dk_at dksX8_proof_2 18 rfl rfl)
theorem dX8_proof_69 : decode cX8_proof 69 = .ok (.goto 46, 3) := dk_167 0 46 (dk_at dksX8_proof_2 21 rfl rfl)
theorem dX8_proof_72 : decode cX8_proof 72 = .ok (.iconst 0, 1) := dk_3 (dk_at dksX8_proof_3 0 rfl rfl)
theorem dX8_proof_73 : decode cX8_proof 73 = .ok (.istore_n 1, 1) := dk_60 (dk_at dksX8_proof_3 1 rfl rfl)
theorem dX8_proof_74 : decode cX8_proof 74 = .ok (.iconst 0, 1) := dk_3 (dk_at dksX8_proof_3 2 rfl rfl)
theorem dX8_proof_75 : decode cX8_proof 75 = .ok (.istore 5, 2) := dk_54 5 (dk_at dksX8_proof_3 3 rfl rfl)
theorem dX8_proof_77 : decode cX8_proof 77 = .ok (.iload 5, 2) := dk_21 5 (dk_at dksX8_proof_3 5 rfl rfl)
theorem dX8_proof_79 : decode cX8_proof 79 = .ok (.iload_n 3, 1) := dk_29 (dk_at dksX8_proof_3 7 rfl rfl)
theorem dX8_proof_80 : decode cX8_proof 80 = .ok (.if_icmp .ge 27, 3) := dk_162 0 27 (dk_at dksX8_proof_3 8 rfl rfl)
theorem dX8_proof_83 : decode cX8_proof 83 = .ok (.bipush 10, 2) := dk_16 10 (dk_at dksX8_proof_3 11 rfl rfl)
theorem dX8_proof_85 : decode cX8_proof 85 = .ok (.iload_n 1, 1) := dk_27 (dk_at dksX8_proof_3 13 rfl rfl)
theorem dX8_proof_86 : decode cX8_proof 86 = .ok (.imul, 1) := dk_104 (dk_at dksX8_proof_3 14 rfl rfl)
theorem dX8_proof_87 : decode cX8_proof 87 = .ok (.aload_n 0, 1) := dk_42 (dk_at dksX8_proof_3 15 rfl rfl)
theorem dX8_proof_88 : decode cX8_proof 88 = .ok (.getfield 13, 3) := dk_180 0 13 (dk_at dksX8_proof_3 16 rfl rfl)
theorem dX8_proof_91 : decode cX8_proof 91 = .ok (.bipush 12, 2) := dk_16 12 (dk_at dksX8_proof_3 19 rfl rfl)
theorem dX8_proof_93 : decode cX8_proof 93 = .ok (.iload 5, 2) := dk_21 5 (dk_at dksX8_proof_3 21 rfl rfl)
theorem dX8_proof_95 : decode cX8_proof 95 = .ok (.iadd, 1) := dk_96 (dk_at dksX8_proof_3 23 rfl rfl)
theorem dX8_proof_96 : decode cX8_proof 96 = .ok (.iaload, 1) := dk_46 (dk_at dksX8_proof_4 0 rfl rfl)
theorem dX8_proof_97 : decode cX8_proof 97 = .ok (.iadd, 1) := dk_96 (dk_at dksX8_proof_4 1 rfl rfl)
theorem dX8_proof_98 : decode cX8_proof 98 = .ok (.iconst 1, 1) := dk_4 (dk_at dksX8_proof_4 2 rfl rfl)
theorem dX8_proof_99 : decode cX8_proof 99 = .ok (.iadd, 1) := dk_96 (dk_at dksX8_proof_4 3 rfl rfl)
theorem dX8_proof_100 : decode cX8_proof 100 = .ok (.istore_n 1, 1) := dk_60 (dk_at dksX8_proof_4 4 rfl rfl)
theorem dX8_proof_101 : decode cX8_proof 101 = .ok (.iinc 5 1, 3) := dk_132 5 1 (dk_at dksX8_proof_4 5 rfl rfl)
theorem dX8_proof_104 : decode cX8_proof 104 = .ok (.goto (-27), 3) := dk_167 255 229 (dk_at dksX8_proof_4 8 rfl rfl)
theorem dX8_proof_107 : decode cX8_proof 107 = .ok (.iload_n 1, 1) := dk_27 (dk_at dksX8_proof_4 11 rfl rfl)
theorem dX8_proof_108 : decode cX8_proof 108 = .ok (.sipush 1000, 3) := dk_17 3 232 (dk_at dksX8_proof_4 12 rfl rfl)
theorem dX8_proof_111 : decode cX8_proof 111 = .ok (.iload_n 3, 1) := dk_29 (dk_at dksX8_proof_4 15 rfl rfl)
theorem dX8_proof_112 : decode cX8_proof 112 = .ok (.imul, 1) := dk_104 (dk_at dksX8_proof_4 16 rfl rfl)
theorem dX8_proof_113 : decode cX8_proof 113 = .ok (.iadd, 1) := dk_96 (dk_at dksX8_proof_4 17 rfl rfl)
theorem dX8_proof_114 : decode cX8_proof 114 = .ok (.istore_n 1, 1) := dk_60 (dk_at dksX8_proof_4 18 rfl rfl)
theorem dX8_proof_115 : decode cX8_proof 115 = .ok (.iinc 4 1, 3) := dk_132 4 1 (dk_at dksX8_proof_4 19 rfl rfl)
theorem dX8_proof_118 : decode cX8_proof 118 = .ok (.goto (-70), 3) := dk_167 255 186 (dk_at dksX8_proof_5 0 rfl rfl)
theorem dX8_proof_121 : decode cX8_proof 121 = .ok (.iinc 3 1, 3) := dk_132 3 1 (dk_at dksX8_proof_5 3 rfl rfl)
theorem dX8_proof_124 : decode cX8_proof 124 = .ok (.goto (-96), 3) := dk_167 255 160 (dk_at dksX8_proof_5 6 rfl rfl)
theorem dX8_proof_127 : decode cX8_proof 127 = .ok (.aload_n 0, 1) := dk_42 (dk_at dksX8_proof_5 9 rfl rfl)
theorem dX8_proof_128 : decode cX8_proof 128 = .ok (.invokevirtual 470, 3) := dk_182 1 214 (dk_at dksX8_proof_5 10 rfl rfl)
theorem dX8_proof_131 : decode cX8_proof 131 = .ok (.iload_n 1, 1) := dk_27 (dk_at dksX8_proof_5 13 rfl rfl)
theorem dX8_proof_132 : decode cX8_proof 132 = .ok (.ireturn, 1) := dk_172 (dk_at dksX8_proof_5 14 rfl rfl)
abbrev cX8_isProof : ByteArray := prog_19_method_121_code
def yX8_isProof : MethodName := ⟨RX8, "isProof", "(II)Z"⟩
def dkwX8_isProof_2 : List UInt8 := [167, 255, 225, 42, 182, 1, 211, 2, 159, 0, 7, 4, 167, 0, 4, 3, 172]
abbrev dktX8_isProof_2 : List UInt8 := dkwX8_isProof_2 ++ []
def dkwX8_isProof_1 : List UInt8 := [16, 12, 21, 4, 96, 29, 42, 182, 0, 84, 112, 79, 29, 42, 182, 0, 84, 108, 62, 132, 4, 255]
abbrev dktX8_isProof_1 : List UInt8 := dkwX8_isProof_1 ++ dktX8_isProof_2
def dkwX8_isProof_0 : List UInt8 := [28, 62, 42, 180, 0, 13, 6, 27, 79, 27, 4, 100, 54, 4, 21, 4, 155, 0, 32, 42, 180, 0, 13]
abbrev dktX8_isProof_0 : List UInt8 := dkwX8_isProof_0 ++ dktX8_isProof_1
theorem dksX8_isProof_0 : cX8_isProof.data.toList.drop 0 = dktX8_isProof_0 := by decide +kernel
theorem dksX8_isProof_1 : cX8_isProof.data.toList.drop 23 = dktX8_isProof_1 := dk_seg dksX8_isProof_0 23 rfl rfl
theorem dksX8_isProof_2 : cX8_isProof.data.toList.drop 45 = dktX8_isProof_2 := dk_seg dksX8_isProof_1 22 rfl rfl
theorem dX8_isProof_0 : decode cX8_isProof 0 = .ok (.iload_n 2, 1) := dk_28 (dk_at dksX8_isProof_0 0 rfl rfl)
theorem dX8_isProof_1 : decode cX8_isProof 1 = .ok (.istore_n 3, 1) := dk_62 (dk_at dksX8_isProof_0 1 rfl rfl)
theorem dX8_isProof_2 : decode cX8_isProof 2 = .ok (.aload_n 0, 1) := dk_42 (dk_at dksX8_isProof_0 2 rfl rfl)
theorem dX8_isProof_3 : decode cX8_isProof 3 = .ok (.getfield 13, 3) := dk_180 0 13 (dk_at dksX8_isProof_0 3 rfl rfl)
theorem dX8_isProof_6 : decode cX8_isProof 6 = .ok (.iconst 3, 1) := dk_6 (dk_at dksX8_isProof_0 6 rfl rfl)
theorem dX8_isProof_7 : decode cX8_isProof 7 = .ok (.iload_n 1, 1) := dk_27 (dk_at dksX8_isProof_0 7 rfl rfl)
theorem dX8_isProof_8 : decode cX8_isProof 8 = .ok (.iastore, 1) := dk_79 (dk_at dksX8_isProof_0 8 rfl rfl)
theorem dX8_isProof_9 : decode cX8_isProof 9 = .ok (.iload_n 1, 1) := dk_27 (dk_at dksX8_isProof_0 9 rfl rfl)
theorem dX8_isProof_10 : decode cX8_isProof 10 = .ok (.iconst 1, 1) := dk_4 (dk_at dksX8_isProof_0 10 rfl rfl)
theorem dX8_isProof_11 : decode cX8_isProof 11 = .ok (.isub, 1) := dk_100 (dk_at dksX8_isProof_0 11 rfl rfl)
theorem dX8_isProof_12 : decode cX8_isProof 12 = .ok (.istore 4, 2) := dk_54 4 (dk_at dksX8_isProof_0 12 rfl rfl)
theorem dX8_isProof_14 : decode cX8_isProof 14 = .ok (.iload 4, 2) := dk_21 4 (dk_at dksX8_isProof_0 14 rfl rfl)
theorem dX8_isProof_16 : decode cX8_isProof 16 = .ok (.ifCond .lt 32, 3) := dk_155 0 32 (dk_at dksX8_isProof_0 16 rfl rfl)
theorem dX8_isProof_19 : decode cX8_isProof 19 = .ok (.aload_n 0, 1) := dk_42 (dk_at dksX8_isProof_0 19 rfl rfl)
theorem dX8_isProof_20 : decode cX8_isProof 20 = .ok (.getfield 13, 3) := dk_180 0 13 (dk_at dksX8_isProof_0 20 rfl rfl)
theorem dX8_isProof_23 : decode cX8_isProof 23 = .ok (.bipush 12, 2) := dk_16 12 (dk_at dksX8_isProof_1 0 rfl rfl)
theorem dX8_isProof_25 : decode cX8_isProof 25 = .ok (.iload 4, 2) := dk_21 4 (dk_at dksX8_isProof_1 2 rfl rfl)
theorem dX8_isProof_27 : decode cX8_isProof 27 = .ok (.iadd, 1) := dk_96 (dk_at dksX8_isProof_1 4 rfl rfl)
theorem dX8_isProof_28 : decode cX8_isProof 28 = .ok (.iload_n 3, 1) := dk_29 (dk_at dksX8_isProof_1 5 rfl rfl)
theorem dX8_isProof_29 : decode cX8_isProof 29 = .ok (.aload_n 0, 1) := dk_42 (dk_at dksX8_isProof_1 6 rfl rfl)
theorem dX8_isProof_30 : decode cX8_isProof 30 = .ok (.invokevirtual 84, 3) := dk_182 0 84 (dk_at dksX8_isProof_1 7 rfl rfl)
theorem dX8_isProof_33 : decode cX8_isProof 33 = .ok (.irem, 1) := dk_112 (dk_at dksX8_isProof_1 10 rfl rfl)
theorem dX8_isProof_34 : decode cX8_isProof 34 = .ok (.iastore, 1) := dk_79 (dk_at dksX8_isProof_1 11 rfl rfl)
theorem dX8_isProof_35 : decode cX8_isProof 35 = .ok (.iload_n 3, 1) := dk_29 (dk_at dksX8_isProof_1 12 rfl rfl)
theorem dX8_isProof_36 : decode cX8_isProof 36 = .ok (.aload_n 0, 1) := dk_42 (dk_at dksX8_isProof_1 13 rfl rfl)
theorem dX8_isProof_37 : decode cX8_isProof 37 = .ok (.invokevirtual 84, 3) := dk_182 0 84 (dk_at dksX8_isProof_1 14 rfl rfl)
theorem dX8_isProof_40 : decode cX8_isProof 40 = .ok (.idiv, 1) := dk_108 (dk_at dksX8_isProof_1 17 rfl rfl)
theorem dX8_isProof_41 : decode cX8_isProof 41 = .ok (.istore_n 3, 1) := dk_62 (dk_at dksX8_isProof_1 18 rfl rfl)
theorem dX8_isProof_42 : decode cX8_isProof 42 = .ok (.iinc 4 (-1), 3) := dk_132 4 255 (dk_at dksX8_isProof_1 19 rfl rfl)
theorem dX8_isProof_45 : decode cX8_isProof 45 = .ok (.goto (-31), 3) := dk_167 255 225 (dk_at dksX8_isProof_2 0 rfl rfl)
theorem dX8_isProof_48 : decode cX8_isProof 48 = .ok (.aload_n 0, 1) := dk_42 (dk_at dksX8_isProof_2 3 rfl rfl)
theorem dX8_isProof_49 : decode cX8_isProof 49 = .ok (.invokevirtual 467, 3) := dk_182 1 211 (dk_at dksX8_isProof_2 4 rfl rfl)
theorem dX8_isProof_52 : decode cX8_isProof 52 = .ok (.iconst (-1), 1) := dk_2 (dk_at dksX8_isProof_2 7 rfl rfl)
theorem dX8_isProof_53 : decode cX8_isProof 53 = .ok (.if_icmp .eq 7, 3) := dk_159 0 7 (dk_at dksX8_isProof_2 8 rfl rfl)
theorem dX8_isProof_56 : decode cX8_isProof 56 = .ok (.iconst 1, 1) := dk_4 (dk_at dksX8_isProof_2 11 rfl rfl)
theorem dX8_isProof_57 : decode cX8_isProof 57 = .ok (.goto 4, 3) := dk_167 0 4 (dk_at dksX8_isProof_2 12 rfl rfl)
theorem dX8_isProof_60 : decode cX8_isProof 60 = .ok (.iconst 0, 1) := dk_3 (dk_at dksX8_isProof_2 15 rfl rfl)
theorem dX8_isProof_61 : decode cX8_isProof 61 = .ok (.ireturn, 1) := dk_172 (dk_at dksX8_isProof_2 16 rfl rfl)
abbrev cX8_clash : ByteArray := prog_19_method_125_code
def yX8_clash : MethodName := ⟨RX8, "clash", "(II)Z"⟩
def dkwX8_clash_2 : List UInt8 := [182, 1, 24, 154, 0, 16, 42, 27, 28, 182, 1, 226, 153, 0, 7, 4, 167, 0, 4, 3, 172]
abbrev dktX8_clash_2 : List UInt8 := dkwX8_clash_2 ++ []
def dkwX8_clash_1 : List UInt8 := [167, 0, 4, 3, 4, 182, 1, 24, 154, 0, 34, 42, 27, 28, 160, 0, 7, 4, 167, 0, 4, 3, 5]
abbrev dktX8_clash_1 : List UInt8 := dkwX8_clash_1 ++ dktX8_clash_2
def dkwX8_clash_0 : List UInt8 := [42, 3, 181, 0, 3, 42, 42, 27, 182, 1, 177, 154, 0, 11, 42, 28, 182, 1, 177, 153, 0, 7, 4]
abbrev dktX8_clash_0 : List UInt8 := dkwX8_clash_0 ++ dktX8_clash_1
theorem dksX8_clash_0 : cX8_clash.data.toList.drop 0 = dktX8_clash_0 := by decide +kernel
theorem dksX8_clash_1 : cX8_clash.data.toList.drop 23 = dktX8_clash_1 := dk_seg dksX8_clash_0 23 rfl rfl
theorem dksX8_clash_2 : cX8_clash.data.toList.drop 46 = dktX8_clash_2 := dk_seg dksX8_clash_1 23 rfl rfl
theorem dX8_clash_0 : decode cX8_clash 0 = .ok (.aload_n 0, 1) := dk_42 (dk_at dksX8_clash_0 0 rfl rfl)
theorem dX8_clash_1 : decode cX8_clash 1 = .ok (.iconst 0, 1) := dk_3 (dk_at dksX8_clash_0 1 rfl rfl)
theorem dX8_clash_2 : decode cX8_clash 2 = .ok (.putfield 3, 3) := dk_181 0 3 (dk_at dksX8_clash_0 2 rfl rfl)
theorem dX8_clash_5 : decode cX8_clash 5 = .ok (.aload_n 0, 1) := dk_42 (dk_at dksX8_clash_0 5 rfl rfl)
theorem dX8_clash_6 : decode cX8_clash 6 = .ok (.aload_n 0, 1) := dk_42 (dk_at dksX8_clash_0 6 rfl rfl)
theorem dX8_clash_7 : decode cX8_clash 7 = .ok (.iload_n 1, 1) := dk_27 (dk_at dksX8_clash_0 7 rfl rfl)
theorem dX8_clash_8 : decode cX8_clash 8 = .ok (.invokevirtual 433, 3) := dk_182 1 177 (dk_at dksX8_clash_0 8 rfl rfl)
theorem dX8_clash_11 : decode cX8_clash 11 = .ok (.ifCond .ne 11, 3) := dk_154 0 11 (dk_at dksX8_clash_0 11 rfl rfl)
theorem dX8_clash_14 : decode cX8_clash 14 = .ok (.aload_n 0, 1) := dk_42 (dk_at dksX8_clash_0 14 rfl rfl)
theorem dX8_clash_15 : decode cX8_clash 15 = .ok (.iload_n 2, 1) := dk_28 (dk_at dksX8_clash_0 15 rfl rfl)
theorem dX8_clash_16 : decode cX8_clash 16 = .ok (.invokevirtual 433, 3) := dk_182 1 177 (dk_at dksX8_clash_0 16 rfl rfl)
theorem dX8_clash_19 : decode cX8_clash 19 = .ok (.ifCond .eq 7, 3) := dk_153 0 7 (dk_at dksX8_clash_0 19 rfl rfl)
theorem dX8_clash_22 : decode cX8_clash 22 = .ok (.iconst 1, 1) := dk_4 (dk_at dksX8_clash_0 22 rfl rfl)
theorem dX8_clash_23 : decode cX8_clash 23 = .ok (.goto 4, 3) := dk_167 0 4 (dk_at dksX8_clash_1 0 rfl rfl)
theorem dX8_clash_26 : decode cX8_clash 26 = .ok (.iconst 0, 1) := dk_3 (dk_at dksX8_clash_1 3 rfl rfl)
theorem dX8_clash_27 : decode cX8_clash 27 = .ok (.iconst 1, 1) := dk_4 (dk_at dksX8_clash_1 4 rfl rfl)
theorem dX8_clash_28 : decode cX8_clash 28 = .ok (.invokevirtual 280, 3) := dk_182 1 24 (dk_at dksX8_clash_1 5 rfl rfl)
theorem dX8_clash_31 : decode cX8_clash 31 = .ok (.ifCond .ne 34, 3) := dk_154 0 34 (dk_at dksX8_clash_1 8 rfl rfl)
theorem dX8_clash_34 : decode cX8_clash 34 = .ok (.aload_n 0, 1) := dk_42 (dk_at dksX8_clash_1 11 rfl rfl)
theorem dX8_clash_35 : decode cX8_clash 35 = .ok (.iload_n 1, 1) := dk_27 (dk_at dksX8_clash_1 12 rfl rfl)
theorem dX8_clash_36 : decode cX8_clash 36 = .ok (.iload_n 2, 1) := dk_28 (dk_at dksX8_clash_1 13 rfl rfl)
theorem dX8_clash_37 : decode cX8_clash 37 = .ok (.if_icmp .ne 7, 3) := dk_160 0 7 (dk_at dksX8_clash_1 14 rfl rfl)
theorem dX8_clash_40 : decode cX8_clash 40 = .ok (.iconst 1, 1) := dk_4 (dk_at dksX8_clash_1 17 rfl rfl)
theorem dX8_clash_41 : decode cX8_clash 41 = .ok (.goto 4, 3) := dk_167 0 4 (dk_at dksX8_clash_1 18 rfl rfl)
theorem dX8_clash_44 : decode cX8_clash 44 = .ok (.iconst 0, 1) := dk_3 (dk_at dksX8_clash_1 21 rfl rfl)
theorem dX8_clash_45 : decode cX8_clash 45 = .ok (.iconst 2, 1) := dk_5 (dk_at dksX8_clash_1 22 rfl rfl)
theorem dX8_clash_46 : decode cX8_clash 46 = .ok (.invokevirtual 280, 3) := dk_182 1 24 (dk_at dksX8_clash_2 0 rfl rfl)
theorem dX8_clash_49 : decode cX8_clash 49 = .ok (.ifCond .ne 16, 3) := dk_154 0 16 (dk_at dksX8_clash_2 3 rfl rfl)
theorem dX8_clash_52 : decode cX8_clash 52 = .ok (.aload_n 0, 1) := dk_42 (dk_at dksX8_clash_2 6 rfl rfl)
theorem dX8_clash_53 : decode cX8_clash 53 = .ok (.iload_n 1, 1) := dk_27 (dk_at dksX8_clash_2 7 rfl rfl)
theorem dX8_clash_54 : decode cX8_clash 54 = .ok (.iload_n 2, 1) := dk_28 (dk_at dksX8_clash_2 8 rfl rfl)
theorem dX8_clash_55 : decode cX8_clash 55 = .ok (.invokevirtual 482, 3) := dk_182 1 226 (dk_at dksX8_clash_2 9 rfl rfl)
theorem dX8_clash_58 : decode cX8_clash 58 = .ok (.ifCond .eq 7, 3) := dk_153 0 7 (dk_at dksX8_clash_2 12 rfl rfl)
theorem dX8_clash_61 : decode cX8_clash 61 = .ok (.iconst 1, 1) := dk_4 (dk_at dksX8_clash_2 15 rfl rfl)
theorem dX8_clash_62 : decode cX8_clash 62 = .ok (.goto 4, 3) := dk_167 0 4 (dk_at dksX8_clash_2 16 rfl rfl)
theorem dX8_clash_65 : decode cX8_clash 65 = .ok (.iconst 0, 1) := dk_3 (dk_at dksX8_clash_2 19 rfl rfl)
theorem dX8_clash_66 : decode cX8_clash 66 = .ok (.ireturn, 1) := dk_172 (dk_at dksX8_clash_2 20 rfl rfl)
abbrev cX8_doClash : ByteArray := prog_19_method_124_code
def yX8_doClash : MethodName := ⟨RX8, "doClash", "(II)Z"⟩
def dkwX8_doClash_3 : List UInt8 := [182, 1, 223, 153, 0, 7, 4, 167, 0, 4, 3, 62, 132, 4, 1, 167, 255, 174, 29, 172]
abbrev dktX8_doClash_3 : List UInt8 := dkwX8_doClash_3 ++ []
def dkwX8_doClash_2 : List UInt8 := [153, 0, 14, 42, 28, 4, 21, 4, 182, 1, 223, 154, 0, 19, 21, 6, 153, 0, 18, 42, 27, 4, 21, 4]
abbrev dktX8_doClash_2 : List UInt8 := dkwX8_doClash_2 ++ dktX8_doClash_3
def dkwX8_doClash_1 : List UInt8 := [5, 21, 4, 182, 1, 223, 54, 6, 29, 154, 0, 45, 21, 5, 153, 0, 8, 21, 6, 154, 0, 35, 21, 5]
abbrev dktX8_doClash_1 : List UInt8 := dkwX8_doClash_1 ++ dktX8_doClash_2
def dkwX8_doClash_0 : List UInt8 := [3, 62, 3, 54, 4, 21, 4, 16, 8, 162, 0, 81, 42, 27, 5, 21, 4, 182, 1, 223, 54, 5, 42, 28]
abbrev dktX8_doClash_0 : List UInt8 := dkwX8_doClash_0 ++ dktX8_doClash_1
theorem dksX8_doClash_0 : cX8_doClash.data.toList.drop 0 = dktX8_doClash_0 := by decide +kernel
theorem dksX8_doClash_1 : cX8_doClash.data.toList.drop 24 = dktX8_doClash_1 := dk_seg dksX8_doClash_0 24 rfl rfl
theorem dksX8_doClash_2 : cX8_doClash.data.toList.drop 48 = dktX8_doClash_2 := dk_seg dksX8_doClash_1 24 rfl rfl
theorem dksX8_doClash_3 : cX8_doClash.data.toList.drop 72 = dktX8_doClash_3 := dk_seg dksX8_doClash_2 24 rfl rfl
theorem dX8_doClash_0 : decode cX8_doClash 0 = .ok (.iconst 0, 1) := dk_3 (dk_at dksX8_doClash_0 0 rfl rfl)
theorem dX8_doClash_1 : decode cX8_doClash 1 = .ok (.istore_n 3, 1) := dk_62 (dk_at dksX8_doClash_0 1 rfl rfl)
theorem dX8_doClash_2 : decode cX8_doClash 2 = .ok (.iconst 0, 1) := dk_3 (dk_at dksX8_doClash_0 2 rfl rfl)
theorem dX8_doClash_3 : decode cX8_doClash 3 = .ok (.istore 4, 2) := dk_54 4 (dk_at dksX8_doClash_0 3 rfl rfl)
theorem dX8_doClash_5 : decode cX8_doClash 5 = .ok (.iload 4, 2) := dk_21 4 (dk_at dksX8_doClash_0 5 rfl rfl)
theorem dX8_doClash_7 : decode cX8_doClash 7 = .ok (.bipush 8, 2) := dk_16 8 (dk_at dksX8_doClash_0 7 rfl rfl)
theorem dX8_doClash_9 : decode cX8_doClash 9 = .ok (.if_icmp .ge 81, 3) := dk_162 0 81 (dk_at dksX8_doClash_0 9 rfl rfl)
theorem dX8_doClash_12 : decode cX8_doClash 12 = .ok (.aload_n 0, 1) := dk_42 (dk_at dksX8_doClash_0 12 rfl rfl)
theorem dX8_doClash_13 : decode cX8_doClash 13 = .ok (.iload_n 1, 1) := dk_27 (dk_at dksX8_doClash_0 13 rfl rfl)
theorem dX8_doClash_14 : decode cX8_doClash 14 = .ok (.iconst 2, 1) := dk_5 (dk_at dksX8_doClash_0 14 rfl rfl)
theorem dX8_doClash_15 : decode cX8_doClash 15 = .ok (.iload 4, 2) := dk_21 4 (dk_at dksX8_doClash_0 15 rfl rfl)
theorem dX8_doClash_17 : decode cX8_doClash 17 = .ok (.invokevirtual 479, 3) := dk_182 1 223 (dk_at dksX8_doClash_0 17 rfl rfl)
theorem dX8_doClash_20 : decode cX8_doClash 20 = .ok (.istore 5, 2) := dk_54 5 (dk_at dksX8_doClash_0 20 rfl rfl)
theorem dX8_doClash_22 : decode cX8_doClash 22 = .ok (.aload_n 0, 1) := dk_42 (dk_at dksX8_doClash_0 22 rfl rfl)
theorem dX8_doClash_23 : decode cX8_doClash 23 = .ok (.iload_n 2, 1) := dk_28 (dk_at dksX8_doClash_0 23 rfl rfl)
theorem dX8_doClash_24 : decode cX8_doClash 24 = .ok (.iconst 2, 1) := dk_5 (dk_at dksX8_doClash_1 0 rfl rfl)
theorem dX8_doClash_25 : decode cX8_doClash 25 = .ok (.iload 4, 2) := dk_21 4 (dk_at dksX8_doClash_1 1 rfl rfl)
theorem dX8_doClash_27 : decode cX8_doClash 27 = .ok (.invokevirtual 479, 3) := dk_182 1 223 (dk_at dksX8_doClash_1 3 rfl rfl)
theorem dX8_doClash_30 : decode cX8_doClash 30 = .ok (.istore 6, 2) := dk_54 6 (dk_at dksX8_doClash_1 6 rfl rfl)
theorem dX8_doClash_32 : decode cX8_doClash 32 = .ok (.iload_n 3, 1) := dk_29 (dk_at dksX8_doClash_1 8 rfl rfl)
theorem dX8_doClash_33 : decode cX8_doClash 33 = .ok (.ifCond .ne 45, 3) := dk_154 0 45 (dk_at dksX8_doClash_1 9 rfl rfl)
theorem dX8_doClash_36 : decode cX8_doClash 36 = .ok (.iload 5, 2) := dk_21 5 (dk_at dksX8_doClash_1 12 rfl rfl)
theorem dX8_doClash_38 : decode cX8_doClash 38 = .ok (.ifCond .eq 8, 3) := dk_153 0 8 (dk_at dksX8_doClash_1 14 rfl rfl)
theorem dX8_doClash_41 : decode cX8_doClash 41 = .ok (.iload 6, 2) := dk_21 6 (dk_at dksX8_doClash_1 17 rfl rfl)
theorem dX8_doClash_43 : decode cX8_doClash 43 = .ok (.ifCond .ne 35, 3) := dk_154 0 35 (dk_at dksX8_doClash_1 19 rfl rfl)
theorem dX8_doClash_46 : decode cX8_doClash 46 = .ok (.iload 5, 2) := dk_21 5 (dk_at dksX8_doClash_1 22 rfl rfl)
theorem dX8_doClash_48 : decode cX8_doClash 48 = .ok (.ifCond .eq 14, 3) := dk_153 0 14 (dk_at dksX8_doClash_2 0 rfl rfl)
theorem dX8_doClash_51 : decode cX8_doClash 51 = .ok (.aload_n 0, 1) := dk_42 (dk_at dksX8_doClash_2 3 rfl rfl)
theorem dX8_doClash_52 : decode cX8_doClash 52 = .ok (.iload_n 2, 1) := dk_28 (dk_at dksX8_doClash_2 4 rfl rfl)
theorem dX8_doClash_53 : decode cX8_doClash 53 = .ok (.iconst 1, 1) := dk_4 (dk_at dksX8_doClash_2 5 rfl rfl)
theorem dX8_doClash_54 : decode cX8_doClash 54 = .ok (.iload 4, 2) := dk_21 4 (dk_at dksX8_doClash_2 6 rfl rfl)
theorem dX8_doClash_56 : decode cX8_doClash 56 = .ok (.invokevirtual 479, 3) := dk_182 1 223 (dk_at dksX8_doClash_2 8 rfl rfl)
theorem dX8_doClash_59 : decode cX8_doClash 59 = .ok (.ifCond .ne 19, 3) := dk_154 0 19 (dk_at dksX8_doClash_2 11 rfl rfl)
theorem dX8_doClash_62 : decode cX8_doClash 62 = .ok (.iload 6, 2) := dk_21 6 (dk_at dksX8_doClash_2 14 rfl rfl)
theorem dX8_doClash_64 : decode cX8_doClash 64 = .ok (.ifCond .eq 18, 3) := dk_153 0 18 (dk_at dksX8_doClash_2 16 rfl rfl)
theorem dX8_doClash_67 : decode cX8_doClash 67 = .ok (.aload_n 0, 1) := dk_42 (dk_at dksX8_doClash_2 19 rfl rfl)
theorem dX8_doClash_68 : decode cX8_doClash 68 = .ok (.iload_n 1, 1) := dk_27 (dk_at dksX8_doClash_2 20 rfl rfl)
theorem dX8_doClash_69 : decode cX8_doClash 69 = .ok (.iconst 1, 1) := dk_4 (dk_at dksX8_doClash_2 21 rfl rfl)
theorem dX8_doClash_70 : decode cX8_doClash 70 = .ok (.iload 4, 2) := dk_21 4 (dk_at dksX8_doClash_2 22 rfl rfl)
theorem dX8_doClash_72 : decode cX8_doClash 72 = .ok (.invokevirtual 479, 3) := dk_182 1 223 (dk_at dksX8_doClash_3 0 rfl rfl)
theorem dX8_doClash_75 : decode cX8_doClash 75 = .ok (.ifCond .eq 7, 3) := dk_153 0 7 (dk_at dksX8_doClash_3 3 rfl rfl)
theorem dX8_doClash_78 : decode cX8_doClash 78 = .ok (.iconst 1, 1) := dk_4 (dk_at dksX8_doClash_3 6 rfl rfl)
theorem dX8_doClash_79 : decode cX8_doClash 79 = .ok (.goto 4, 3) := dk_167 0 4 (dk_at dksX8_doClash_3 7 rfl rfl)
theorem dX8_doClash_82 : decode cX8_doClash 82 = .ok (.iconst 0, 1) := dk_3 (dk_at dksX8_doClash_3 10 rfl rfl)
theorem dX8_doClash_83 : decode cX8_doClash 83 = .ok (.istore_n 3, 1) := dk_62 (dk_at dksX8_doClash_3 11 rfl rfl)
theorem dX8_doClash_84 : decode cX8_doClash 84 = .ok (.iinc 4 1, 3) := dk_132 4 1 (dk_at dksX8_doClash_3 12 rfl rfl)
theorem dX8_doClash_87 : decode cX8_doClash 87 = .ok (.goto (-82), 3) := dk_167 255 174 (dk_at dksX8_doClash_3 15 rfl rfl)
theorem dX8_doClash_90 : decode cX8_doClash 90 = .ok (.iload_n 3, 1) := dk_29 (dk_at dksX8_doClash_3 18 rfl rfl)
theorem dX8_doClash_91 : decode cX8_doClash 91 = .ok (.ireturn, 1) := dk_172 (dk_at dksX8_doClash_3 19 rfl rfl)
abbrev cX8_touches : ByteArray := prog_19_method_123_code
def yX8_touches : MethodName := ⟨RX8, "touches", "(III)Z"⟩
def dkwX8_touches_2 : List UInt8 := [3, 54, 4, 132, 5, 1, 167, 255, 208, 21, 4, 172]
abbrev dktX8_touches_2 : List UInt8 := dkwX8_touches_2 ++ []
def dkwX8_touches_1 : List UInt8 := [21, 5, 182, 1, 42, 28, 160, 0, 18, 42, 27, 21, 5, 182, 1, 45, 29, 160, 0, 7, 4, 167, 0, 4]
abbrev dktX8_touches_1 : List UInt8 := dkwX8_touches_1 ++ dktX8_touches_2
def dkwX8_touches_0 : List UInt8 := [3, 54, 4, 3, 54, 5, 21, 5, 42, 27, 3, 182, 0, 78, 162, 0, 43, 21, 4, 154, 0, 25, 42, 27]
abbrev dktX8_touches_0 : List UInt8 := dkwX8_touches_0 ++ dktX8_touches_1
theorem dksX8_touches_0 : cX8_touches.data.toList.drop 0 = dktX8_touches_0 := by decide +kernel
theorem dksX8_touches_1 : cX8_touches.data.toList.drop 24 = dktX8_touches_1 := dk_seg dksX8_touches_0 24 rfl rfl
theorem dksX8_touches_2 : cX8_touches.data.toList.drop 48 = dktX8_touches_2 := dk_seg dksX8_touches_1 24 rfl rfl
theorem dX8_touches_0 : decode cX8_touches 0 = .ok (.iconst 0, 1) := dk_3 (dk_at dksX8_touches_0 0 rfl rfl)
theorem dX8_touches_1 : decode cX8_touches 1 = .ok (.istore 4, 2) := dk_54 4 (dk_at dksX8_touches_0 1 rfl rfl)
theorem dX8_touches_3 : decode cX8_touches 3 = .ok (.iconst 0, 1) := dk_3 (dk_at dksX8_touches_0 3 rfl rfl)
theorem dX8_touches_4 : decode cX8_touches 4 = .ok (.istore 5, 2) := dk_54 5 (dk_at dksX8_touches_0 4 rfl rfl)
theorem dX8_touches_6 : decode cX8_touches 6 = .ok (.iload 5, 2) := dk_21 5 (dk_at dksX8_touches_0 6 rfl rfl)
theorem dX8_touches_8 : decode cX8_touches 8 = .ok (.aload_n 0, 1) := dk_42 (dk_at dksX8_touches_0 8 rfl rfl)
theorem dX8_touches_9 : decode cX8_touches 9 = .ok (.iload_n 1, 1) := dk_27 (dk_at dksX8_touches_0 9 rfl rfl)
theorem dX8_touches_10 : decode cX8_touches 10 = .ok (.iconst 0, 1) := dk_3 (dk_at dksX8_touches_0 10 rfl rfl)
theorem dX8_touches_11 : decode cX8_touches 11 = .ok (.invokevirtual 78, 3) := dk_182 0 78 (dk_at dksX8_touches_0 11 rfl rfl)
theorem dX8_touches_14 : decode cX8_touches 14 = .ok (.if_icmp .ge 43, 3) := dk_162 0 43 (dk_at dksX8_touches_0 14 rfl rfl)
theorem dX8_touches_17 : decode cX8_touches 17 = .ok (.iload 4, 2) := dk_21 4 (dk_at dksX8_touches_0 17 rfl rfl)
theorem dX8_touches_19 : decode cX8_touches 19 = .ok (.ifCond .ne 25, 3) := dk_154 0 25 (dk_at dksX8_touches_0 19 rfl rfl)
theorem dX8_touches_22 : decode cX8_touches 22 = .ok (.aload_n 0, 1) := dk_42 (dk_at dksX8_touches_0 22 rfl rfl)
theorem dX8_touches_23 : decode cX8_touches 23 = .ok (.iload_n 1, 1) := dk_27 (dk_at dksX8_touches_0 23 rfl rfl)
theorem dX8_touches_24 : decode cX8_touches 24 = .ok (.iload 5, 2) := dk_21 5 (dk_at dksX8_touches_1 0 rfl rfl)
theorem dX8_touches_26 : decode cX8_touches 26 = .ok (.invokevirtual 298, 3) := dk_182 1 42 (dk_at dksX8_touches_1 2 rfl rfl)
theorem dX8_touches_29 : decode cX8_touches 29 = .ok (.iload_n 2, 1) := dk_28 (dk_at dksX8_touches_1 5 rfl rfl)
theorem dX8_touches_30 : decode cX8_touches 30 = .ok (.if_icmp .ne 18, 3) := dk_160 0 18 (dk_at dksX8_touches_1 6 rfl rfl)
theorem dX8_touches_33 : decode cX8_touches 33 = .ok (.aload_n 0, 1) := dk_42 (dk_at dksX8_touches_1 9 rfl rfl)
theorem dX8_touches_34 : decode cX8_touches 34 = .ok (.iload_n 1, 1) := dk_27 (dk_at dksX8_touches_1 10 rfl rfl)
theorem dX8_touches_35 : decode cX8_touches 35 = .ok (.iload 5, 2) := dk_21 5 (dk_at dksX8_touches_1 11 rfl rfl)
theorem dX8_touches_37 : decode cX8_touches 37 = .ok (.invokevirtual 301, 3) := dk_182 1 45 (dk_at dksX8_touches_1 13 rfl rfl)
theorem dX8_touches_40 : decode cX8_touches 40 = .ok (.iload_n 3, 1) := dk_29 (dk_at dksX8_touches_1 16 rfl rfl)
theorem dX8_touches_41 : decode cX8_touches 41 = .ok (.if_icmp .ne 7, 3) := dk_160 0 7 (dk_at dksX8_touches_1 17 rfl rfl)
theorem dX8_touches_44 : decode cX8_touches 44 = .ok (.iconst 1, 1) := dk_4 (dk_at dksX8_touches_1 20 rfl rfl)
theorem dX8_touches_45 : decode cX8_touches 45 = .ok (.goto 4, 3) := dk_167 0 4 (dk_at dksX8_touches_1 21 rfl rfl)
theorem dX8_touches_48 : decode cX8_touches 48 = .ok (.iconst 0, 1) := dk_3 (dk_at dksX8_touches_2 0 rfl rfl)
theorem dX8_touches_49 : decode cX8_touches 49 = .ok (.istore 4, 2) := dk_54 4 (dk_at dksX8_touches_2 1 rfl rfl)
theorem dX8_touches_51 : decode cX8_touches 51 = .ok (.iinc 5 1, 3) := dk_132 5 1 (dk_at dksX8_touches_2 3 rfl rfl)
theorem dX8_touches_54 : decode cX8_touches 54 = .ok (.goto (-48), 3) := dk_167 255 208 (dk_at dksX8_touches_2 6 rfl rfl)
theorem dX8_touches_57 : decode cX8_touches 57 = .ok (.iload 4, 2) := dk_21 4 (dk_at dksX8_touches_2 9 rfl rfl)
theorem dX8_touches_59 : decode cX8_touches 59 = .ok (.ireturn, 1) := dk_172 (dk_at dksX8_touches_2 11 rfl rfl)
abbrev cX8_beside : ByteArray := prog_19_method_127_code
def yX8_beside : MethodName := ⟨RX8, "beside", "()I"⟩
def dkwX8_beside_2 : List UInt8 := [167, 255, 218, 27, 172]
abbrev dktX8_beside_2 : List UInt8 := dkwX8_beside_2 ++ []
def dkwX8_beside_1 : List UInt8 := [184, 1, 203, 164, 0, 15, 42, 28, 182, 1, 232, 153, 0, 7, 28, 167, 0, 4, 27, 60, 132, 2, 1]
abbrev dktX8_beside_1 : List UInt8 := dkwX8_beside_1 ++ dktX8_beside_2
def dkwX8_beside_0 : List UInt8 := [42, 3, 181, 0, 3, 3, 60, 4, 61, 28, 4, 42, 182, 0, 84, 120, 162, 0, 34, 28, 184, 1, 203, 27]
abbrev dktX8_beside_0 : List UInt8 := dkwX8_beside_0 ++ dktX8_beside_1
theorem dksX8_beside_0 : cX8_beside.data.toList.drop 0 = dktX8_beside_0 := by decide +kernel
theorem dksX8_beside_1 : cX8_beside.data.toList.drop 24 = dktX8_beside_1 := dk_seg dksX8_beside_0 24 rfl rfl
theorem dksX8_beside_2 : cX8_beside.data.toList.drop 47 = dktX8_beside_2 := dk_seg dksX8_beside_1 23 rfl rfl
theorem dX8_beside_0 : decode cX8_beside 0 = .ok (.aload_n 0, 1) := dk_42 (dk_at dksX8_beside_0 0 rfl rfl)
theorem dX8_beside_1 : decode cX8_beside 1 = .ok (.iconst 0, 1) := dk_3 (dk_at dksX8_beside_0 1 rfl rfl)
theorem dX8_beside_2 : decode cX8_beside 2 = .ok (.putfield 3, 3) := dk_181 0 3 (dk_at dksX8_beside_0 2 rfl rfl)
theorem dX8_beside_5 : decode cX8_beside 5 = .ok (.iconst 0, 1) := dk_3 (dk_at dksX8_beside_0 5 rfl rfl)
theorem dX8_beside_6 : decode cX8_beside 6 = .ok (.istore_n 1, 1) := dk_60 (dk_at dksX8_beside_0 6 rfl rfl)
theorem dX8_beside_7 : decode cX8_beside 7 = .ok (.iconst 1, 1) := dk_4 (dk_at dksX8_beside_0 7 rfl rfl)
theorem dX8_beside_8 : decode cX8_beside 8 = .ok (.istore_n 2, 1) := dk_61 (dk_at dksX8_beside_0 8 rfl rfl)
theorem dX8_beside_9 : decode cX8_beside 9 = .ok (.iload_n 2, 1) := dk_28 (dk_at dksX8_beside_0 9 rfl rfl)
theorem dX8_beside_10 : decode cX8_beside 10 = .ok (.iconst 1, 1) := dk_4 (dk_at dksX8_beside_0 10 rfl rfl)
theorem dX8_beside_11 : decode cX8_beside 11 = .ok (.aload_n 0, 1) := dk_42 (dk_at dksX8_beside_0 11 rfl rfl)
theorem dX8_beside_12 : decode cX8_beside 12 = .ok (.invokevirtual 84, 3) := dk_182 0 84 (dk_at dksX8_beside_0 12 rfl rfl)
theorem dX8_beside_15 : decode cX8_beside 15 = .ok (.ishl, 1) := dk_120 (dk_at dksX8_beside_0 15 rfl rfl)
theorem dX8_beside_16 : decode cX8_beside 16 = .ok (.if_icmp .ge 34, 3) := dk_162 0 34 (dk_at dksX8_beside_0 16 rfl rfl)
theorem dX8_beside_19 : decode cX8_beside 19 = .ok (.iload_n 2, 1) := dk_28 (dk_at dksX8_beside_0 19 rfl rfl)
theorem dX8_beside_20 : decode cX8_beside 20 = .ok (.invokestatic 459, 3) := dk_184 1 203 (dk_at dksX8_beside_0 20 rfl rfl)
theorem dX8_beside_23 : decode cX8_beside 23 = .ok (.iload_n 1, 1) := dk_27 (dk_at dksX8_beside_0 23 rfl rfl)
theorem dX8_beside_24 : decode cX8_beside 24 = .ok (.invokestatic 459, 3) := dk_184 1 203 (dk_at dksX8_beside_1 0 rfl rfl)
theorem dX8_beside_27 : decode cX8_beside 27 = .ok (.if_icmp .le 15, 3) := dk_164 0 15 (dk_at dksX8_beside_1 3 rfl rfl)
theorem dX8_beside_30 : decode cX8_beside 30 = .ok (.aload_n 0, 1) := dk_42 (dk_at dksX8_beside_1 6 rfl rfl)
theorem dX8_beside_31 : decode cX8_beside 31 = .ok (.iload_n 2, 1) := dk_28 (dk_at dksX8_beside_1 7 rfl rfl)
theorem dX8_beside_32 : decode cX8_beside 32 = .ok (.invokevirtual 488, 3) := dk_182 1 232 (dk_at dksX8_beside_1 8 rfl rfl)
theorem dX8_beside_35 : decode cX8_beside 35 = .ok (.ifCond .eq 7, 3) := dk_153 0 7 (dk_at dksX8_beside_1 11 rfl rfl)
theorem dX8_beside_38 : decode cX8_beside 38 = .ok (.iload_n 2, 1) := dk_28 (dk_at dksX8_beside_1 14 rfl rfl)
theorem dX8_beside_39 : decode cX8_beside 39 = .ok (.goto 4, 3) := dk_167 0 4 (dk_at dksX8_beside_1 15 rfl rfl)
theorem dX8_beside_42 : decode cX8_beside 42 = .ok (.iload_n 1, 1) := dk_27 (dk_at dksX8_beside_1 18 rfl rfl)
theorem dX8_beside_43 : decode cX8_beside 43 = .ok (.istore_n 1, 1) := dk_60 (dk_at dksX8_beside_1 19 rfl rfl)
theorem dX8_beside_44 : decode cX8_beside 44 = .ok (.iinc 2 1, 3) := dk_132 2 1 (dk_at dksX8_beside_1 20 rfl rfl)
theorem dX8_beside_47 : decode cX8_beside 47 = .ok (.goto (-38), 3) := dk_167 255 218 (dk_at dksX8_beside_2 0 rfl rfl)
theorem dX8_beside_50 : decode cX8_beside 50 = .ok (.iload_n 1, 1) := dk_27 (dk_at dksX8_beside_2 3 rfl rfl)
theorem dX8_beside_51 : decode cX8_beside 51 = .ok (.ireturn, 1) := dk_172 (dk_at dksX8_beside_2 4 rfl rfl)
abbrev cX8_noneClash : ByteArray := prog_19_method_126_code
def yX8_noneClash : MethodName := ⟨RX8, "noneClash", "(I)Z"⟩
def dkwX8_noneClash_3 : List UInt8 := [28, 172]
abbrev dktX8_noneClash_3 : List UInt8 := dkwX8_noneClash_3 ++ []
def dkwX8_noneClash_2 : List UInt8 := [182, 1, 226, 154, 0, 7, 4, 167, 0, 4, 3, 61, 132, 4, 1, 167, 255, 210, 132, 3, 1, 167, 255, 193]
abbrev dktX8_noneClash_2 : List UInt8 := dkwX8_noneClash_2 ++ dktX8_noneClash_3
def dkwX8_noneClash_1 : List UInt8 := [153, 0, 34, 27, 29, 184, 1, 229, 153, 0, 22, 27, 21, 4, 184, 1, 229, 153, 0, 13, 42, 29, 21, 4]
abbrev dktX8_noneClash_1 : List UInt8 := dkwX8_noneClash_1 ++ dktX8_noneClash_2
def dkwX8_noneClash_0 : List UInt8 := [4, 61, 3, 62, 29, 42, 182, 0, 84, 162, 0, 61, 3, 54, 4, 21, 4, 29, 162, 0, 46, 28]
abbrev dktX8_noneClash_0 : List UInt8 := dkwX8_noneClash_0 ++ dktX8_noneClash_1
theorem dksX8_noneClash_0 : cX8_noneClash.data.toList.drop 0 = dktX8_noneClash_0 := by decide +kernel
theorem dksX8_noneClash_1 : cX8_noneClash.data.toList.drop 22 = dktX8_noneClash_1 := dk_seg dksX8_noneClash_0 22 rfl rfl
theorem dksX8_noneClash_2 : cX8_noneClash.data.toList.drop 46 = dktX8_noneClash_2 := dk_seg dksX8_noneClash_1 24 rfl rfl
theorem dksX8_noneClash_3 : cX8_noneClash.data.toList.drop 70 = dktX8_noneClash_3 := dk_seg dksX8_noneClash_2 24 rfl rfl
theorem dX8_noneClash_0 : decode cX8_noneClash 0 = .ok (.iconst 1, 1) := dk_4 (dk_at dksX8_noneClash_0 0 rfl rfl)
theorem dX8_noneClash_1 : decode cX8_noneClash 1 = .ok (.istore_n 2, 1) := dk_61 (dk_at dksX8_noneClash_0 1 rfl rfl)
theorem dX8_noneClash_2 : decode cX8_noneClash 2 = .ok (.iconst 0, 1) := dk_3 (dk_at dksX8_noneClash_0 2 rfl rfl)
theorem dX8_noneClash_3 : decode cX8_noneClash 3 = .ok (.istore_n 3, 1) := dk_62 (dk_at dksX8_noneClash_0 3 rfl rfl)
theorem dX8_noneClash_4 : decode cX8_noneClash 4 = .ok (.iload_n 3, 1) := dk_29 (dk_at dksX8_noneClash_0 4 rfl rfl)
theorem dX8_noneClash_5 : decode cX8_noneClash 5 = .ok (.aload_n 0, 1) := dk_42 (dk_at dksX8_noneClash_0 5 rfl rfl)
theorem dX8_noneClash_6 : decode cX8_noneClash 6 = .ok (.invokevirtual 84, 3) := dk_182 0 84 (dk_at dksX8_noneClash_0 6 rfl rfl)
theorem dX8_noneClash_9 : decode cX8_noneClash 9 = .ok (.if_icmp .ge 61, 3) := dk_162 0 61 (dk_at dksX8_noneClash_0 9 rfl rfl)
theorem dX8_noneClash_12 : decode cX8_noneClash 12 = .ok (.iconst 0, 1) := dk_3 (dk_at dksX8_noneClash_0 12 rfl rfl)
theorem dX8_noneClash_13 : decode cX8_noneClash 13 = .ok (.istore 4, 2) := dk_54 4 (dk_at dksX8_noneClash_0 13 rfl rfl)
theorem dX8_noneClash_15 : decode cX8_noneClash 15 = .ok (.iload 4, 2) := dk_21 4 (dk_at dksX8_noneClash_0 15 rfl rfl)
theorem dX8_noneClash_17 : decode cX8_noneClash 17 = .ok (.iload_n 3, 1) := dk_29 (dk_at dksX8_noneClash_0 17 rfl rfl)
theorem dX8_noneClash_18 : decode cX8_noneClash 18 = .ok (.if_icmp .ge 46, 3) := dk_162 0 46 (dk_at dksX8_noneClash_0 18 rfl rfl)
theorem dX8_noneClash_21 : decode cX8_noneClash 21 = .ok (.iload_n 2, 1) := dk_28 (dk_at dksX8_noneClash_0 21 rfl rfl)
theorem dX8_noneClash_22 : decode cX8_noneClash 22 = .ok (.ifCond .eq 34, 3) := dk_153 0 34 (dk_at dksX8_noneClash_1 0 rfl rfl)
theorem dX8_noneClash_25 : decode cX8_noneClash 25 = .ok (.iload_n 1, 1) := dk_27 (dk_at dksX8_noneClash_1 3 rfl rfl)
theorem dX8_noneClash_26 : decode cX8_noneClash 26 = .ok (.iload_n 3, 1) := dk_29 (dk_at dksX8_noneClash_1 4 rfl rfl)
theorem dX8_noneClash_27 : decode cX8_noneClash 27 = .ok (.invokestatic 485, 3) := dk_184 1 229 (dk_at dksX8_noneClash_1 5 rfl rfl)
theorem dX8_noneClash_30 : decode cX8_noneClash 30 = .ok (.ifCond .eq 22, 3) := dk_153 0 22 (dk_at dksX8_noneClash_1 8 rfl rfl)
theorem dX8_noneClash_33 : decode cX8_noneClash 33 = .ok (.iload_n 1, 1) := dk_27 (dk_at dksX8_noneClash_1 11 rfl rfl)
theorem dX8_noneClash_34 : decode cX8_noneClash 34 = .ok (.iload 4, 2) := dk_21 4 (dk_at dksX8_noneClash_1 12 rfl rfl)
theorem dX8_noneClash_36 : decode cX8_noneClash 36 = .ok (.invokestatic 485, 3) := dk_184 1 229 (dk_at dksX8_noneClash_1 14 rfl rfl)
theorem dX8_noneClash_39 : decode cX8_noneClash 39 = .ok (.ifCond .eq 13, 3) := dk_153 0 13 (dk_at dksX8_noneClash_1 17 rfl rfl)
theorem dX8_noneClash_42 : decode cX8_noneClash 42 = .ok (.aload_n 0, 1) := dk_42 (dk_at dksX8_noneClash_1 20 rfl rfl)
theorem dX8_noneClash_43 : decode cX8_noneClash 43 = .ok (.iload_n 3, 1) := dk_29 (dk_at dksX8_noneClash_1 21 rfl rfl)
theorem dX8_noneClash_44 : decode cX8_noneClash 44 = .ok (.iload 4, 2) := dk_21 4 (dk_at dksX8_noneClash_1 22 rfl rfl)
theorem dX8_noneClash_46 : decode cX8_noneClash 46 = .ok (.invokevirtual 482, 3) := dk_182 1 226 (dk_at dksX8_noneClash_2 0 rfl rfl)
theorem dX8_noneClash_49 : decode cX8_noneClash 49 = .ok (.ifCond .ne 7, 3) := dk_154 0 7 (dk_at dksX8_noneClash_2 3 rfl rfl)
theorem dX8_noneClash_52 : decode cX8_noneClash 52 = .ok (.iconst 1, 1) := dk_4 (dk_at dksX8_noneClash_2 6 rfl rfl)
theorem dX8_noneClash_53 : decode cX8_noneClash 53 = .ok (.goto 4, 3) := dk_167 0 4 (dk_at dksX8_noneClash_2 7 rfl rfl)
theorem dX8_noneClash_56 : decode cX8_noneClash 56 = .ok (.iconst 0, 1) := dk_3 (dk_at dksX8_noneClash_2 10 rfl rfl)
theorem dX8_noneClash_57 : decode cX8_noneClash 57 = .ok (.istore_n 2, 1) := dk_61 (dk_at dksX8_noneClash_2 11 rfl rfl)
theorem dX8_noneClash_58 : decode cX8_noneClash 58 = .ok (.iinc 4 1, 3) := dk_132 4 1 (dk_at dksX8_noneClash_2 12 rfl rfl)
theorem dX8_noneClash_61 : decode cX8_noneClash 61 = .ok (.goto (-46), 3) := dk_167 255 210 (dk_at dksX8_noneClash_2 15 rfl rfl)
theorem dX8_noneClash_64 : decode cX8_noneClash 64 = .ok (.iinc 3 1, 3) := dk_132 3 1 (dk_at dksX8_noneClash_2 18 rfl rfl)
theorem dX8_noneClash_67 : decode cX8_noneClash 67 = .ok (.goto (-63), 3) := dk_167 255 193 (dk_at dksX8_noneClash_2 21 rfl rfl)
theorem dX8_noneClash_70 : decode cX8_noneClash 70 = .ok (.iload_n 2, 1) := dk_28 (dk_at dksX8_noneClash_3 0 rfl rfl)
theorem dX8_noneClash_71 : decode cX8_noneClash 71 = .ok (.ireturn, 1) := dk_172 (dk_at dksX8_noneClash_3 1 rfl rfl)
abbrev cX8_has : ByteArray := prog_19_method_4_code
def yX8_has : MethodName := ⟨RX8, "has", "(II)Z"⟩
def dkwX8_has_0 : List UInt8 := [26, 27, 122, 4, 126, 4, 160, 0, 7, 4, 167, 0, 4, 3, 172]
abbrev dktX8_has_0 : List UInt8 := dkwX8_has_0 ++ []
theorem dksX8_has_0 : cX8_has.data.toList.drop 0 = dktX8_has_0 := by decide +kernel
theorem dX8_has_0 : decode cX8_has 0 = .ok (.iload_n 0, 1) := dk_26 (dk_at dksX8_has_0 0 rfl rfl)
theorem dX8_has_1 : decode cX8_has 1 = .ok (.iload_n 1, 1) := dk_27 (dk_at dksX8_has_0 1 rfl rfl)
theorem dX8_has_2 : decode cX8_has 2 = .ok (.ishr, 1) := dk_122 (dk_at dksX8_has_0 2 rfl rfl)
theorem dX8_has_3 : decode cX8_has 3 = .ok (.iconst 1, 1) := dk_4 (dk_at dksX8_has_0 3 rfl rfl)
theorem dX8_has_4 : decode cX8_has 4 = .ok (.iand, 1) := dk_126 (dk_at dksX8_has_0 4 rfl rfl)
theorem dX8_has_5 : decode cX8_has 5 = .ok (.iconst 1, 1) := dk_4 (dk_at dksX8_has_0 5 rfl rfl)
theorem dX8_has_6 : decode cX8_has 6 = .ok (.if_icmp .ne 7, 3) := dk_160 0 7 (dk_at dksX8_has_0 6 rfl rfl)
theorem dX8_has_9 : decode cX8_has 9 = .ok (.iconst 1, 1) := dk_4 (dk_at dksX8_has_0 9 rfl rfl)
theorem dX8_has_10 : decode cX8_has 10 = .ok (.goto 4, 3) := dk_167 0 4 (dk_at dksX8_has_0 10 rfl rfl)
theorem dX8_has_13 : decode cX8_has 13 = .ok (.iconst 0, 1) := dk_3 (dk_at dksX8_has_0 13 rfl rfl)
theorem dX8_has_14 : decode cX8_has 14 = .ok (.ireturn, 1) := dk_172 (dk_at dksX8_has_0 14 rfl rfl)
abbrev cX8_which : ByteArray := prog_19_method_132_code
def yX8_which : MethodName := ⟨RX8, "which", "()I"⟩
def dkwX8_which_1 : List UInt8 := [3, 172, 42, 182, 1, 167, 42, 4, 182, 1, 244, 172]
abbrev dktX8_which_1 : List UInt8 := dkwX8_which_1 ++ []
def dkwX8_which_0 : List UInt8 := [42, 182, 1, 14, 42, 42, 182, 1, 241, 154, 0, 7, 4, 167, 0, 4, 3, 4, 182, 1, 24, 153, 0, 5]
abbrev dktX8_which_0 : List UInt8 := dkwX8_which_0 ++ dktX8_which_1
theorem dksX8_which_0 : cX8_which.data.toList.drop 0 = dktX8_which_0 := by decide +kernel
theorem dksX8_which_1 : cX8_which.data.toList.drop 24 = dktX8_which_1 := dk_seg dksX8_which_0 24 rfl rfl
theorem dX8_which_0 : decode cX8_which 0 = .ok (.aload_n 0, 1) := dk_42 (dk_at dksX8_which_0 0 rfl rfl)
theorem dX8_which_1 : decode cX8_which 1 = .ok (.invokevirtual 270, 3) := dk_182 1 14 (dk_at dksX8_which_0 1 rfl rfl)
theorem dX8_which_4 : decode cX8_which 4 = .ok (.aload_n 0, 1) := dk_42 (dk_at dksX8_which_0 4 rfl rfl)
theorem dX8_which_5 : decode cX8_which 5 = .ok (.aload_n 0, 1) := dk_42 (dk_at dksX8_which_0 5 rfl rfl)
theorem dX8_which_6 : decode cX8_which 6 = .ok (.invokevirtual 497, 3) := dk_182 1 241 (dk_at dksX8_which_0 6 rfl rfl)
theorem dX8_which_9 : decode cX8_which 9 = .ok (.ifCond .ne 7, 3) := dk_154 0 7 (dk_at dksX8_which_0 9 rfl rfl)
theorem dX8_which_12 : decode cX8_which 12 = .ok (.iconst 1, 1) := dk_4 (dk_at dksX8_which_0 12 rfl rfl)
theorem dX8_which_13 : decode cX8_which 13 = .ok (.goto 4, 3) := dk_167 0 4 (dk_at dksX8_which_0 13 rfl rfl)
theorem dX8_which_16 : decode cX8_which 16 = .ok (.iconst 0, 1) := dk_3 (dk_at dksX8_which_0 16 rfl rfl)
theorem dX8_which_17 : decode cX8_which 17 = .ok (.iconst 1, 1) := dk_4 (dk_at dksX8_which_0 17 rfl rfl)
theorem dX8_which_18 : decode cX8_which 18 = .ok (.invokevirtual 280, 3) := dk_182 1 24 (dk_at dksX8_which_0 18 rfl rfl)
theorem dX8_which_21 : decode cX8_which 21 = .ok (.ifCond .eq 5, 3) := dk_153 0 5 (dk_at dksX8_which_0 21 rfl rfl)
theorem dX8_which_24 : decode cX8_which 24 = .ok (.iconst 0, 1) := dk_3 (dk_at dksX8_which_1 0 rfl rfl)
theorem dX8_which_25 : decode cX8_which 25 = .ok (.ireturn, 1) := dk_172 (dk_at dksX8_which_1 1 rfl rfl)
theorem dX8_which_26 : decode cX8_which 26 = .ok (.aload_n 0, 1) := dk_42 (dk_at dksX8_which_1 2 rfl rfl)
theorem dX8_which_27 : decode cX8_which 27 = .ok (.invokevirtual 423, 3) := dk_182 1 167 (dk_at dksX8_which_1 3 rfl rfl)
theorem dX8_which_30 : decode cX8_which 30 = .ok (.aload_n 0, 1) := dk_42 (dk_at dksX8_which_1 6 rfl rfl)
theorem dX8_which_31 : decode cX8_which 31 = .ok (.iconst 1, 1) := dk_4 (dk_at dksX8_which_1 7 rfl rfl)
theorem dX8_which_32 : decode cX8_which 32 = .ok (.invokevirtual 500, 3) := dk_182 1 244 (dk_at dksX8_which_1 8 rfl rfl)
theorem dX8_which_35 : decode cX8_which 35 = .ok (.ireturn, 1) := dk_172 (dk_at dksX8_which_1 11 rfl rfl)
abbrev cX8_areTold : ByteArray := prog_19_method_128_code
def yX8_areTold : MethodName := ⟨RX8, "areTold", "()Z"⟩
def dkwX8_areTold_3 : List UInt8 := [167, 0, 4, 3, 60, 132, 2, 2, 167, 255, 203, 27, 172]
abbrev dktX8_areTold_3 : List UInt8 := dkwX8_areTold_3 ++ []
def dkwX8_areTold_2 : List UInt8 := [184, 0, 88, 153, 0, 24, 42, 180, 0, 29, 28, 4, 96, 51, 3, 16, 10, 184, 0, 88, 153, 0, 7, 4]
abbrev dktX8_areTold_2 : List UInt8 := dkwX8_areTold_2 ++ dktX8_areTold_3
def dkwX8_areTold_1 : List UInt8 := [3, 61, 28, 42, 180, 0, 99, 162, 0, 51, 27, 153, 0, 47, 42, 180, 0, 29, 28, 51, 3, 16, 6]
abbrev dktX8_areTold_1 : List UInt8 := dkwX8_areTold_1 ++ dktX8_areTold_2
def dkwX8_areTold_0 : List UInt8 := [42, 180, 0, 99, 5, 112, 154, 0, 16, 42, 180, 0, 99, 16, 40, 163, 0, 7, 4, 167, 0, 4, 3, 60]
abbrev dktX8_areTold_0 : List UInt8 := dkwX8_areTold_0 ++ dktX8_areTold_1
theorem dksX8_areTold_0 : cX8_areTold.data.toList.drop 0 = dktX8_areTold_0 := by decide +kernel
theorem dksX8_areTold_1 : cX8_areTold.data.toList.drop 24 = dktX8_areTold_1 := dk_seg dksX8_areTold_0 24 rfl rfl
theorem dksX8_areTold_2 : cX8_areTold.data.toList.drop 47 = dktX8_areTold_2 := dk_seg dksX8_areTold_1 23 rfl rfl
theorem dksX8_areTold_3 : cX8_areTold.data.toList.drop 71 = dktX8_areTold_3 := dk_seg dksX8_areTold_2 24 rfl rfl
theorem dX8_areTold_0 : decode cX8_areTold 0 = .ok (.aload_n 0, 1) := dk_42 (dk_at dksX8_areTold_0 0 rfl rfl)
theorem dX8_areTold_1 : decode cX8_areTold 1 = .ok (.getfield 99, 3) := dk_180 0 99 (dk_at dksX8_areTold_0 1 rfl rfl)
theorem dX8_areTold_4 : decode cX8_areTold 4 = .ok (.iconst 2, 1) := dk_5 (dk_at dksX8_areTold_0 4 rfl rfl)
theorem dX8_areTold_5 : decode cX8_areTold 5 = .ok (.irem, 1) := dk_112 (dk_at dksX8_areTold_0 5 rfl rfl)
theorem dX8_areTold_6 : decode cX8_areTold 6 = .ok (.ifCond .ne 16, 3) := dk_154 0 16 (dk_at dksX8_areTold_0 6 rfl rfl)
theorem dX8_areTold_9 : decode cX8_areTold 9 = .ok (.aload_n 0, 1) := dk_42 (dk_at dksX8_areTold_0 9 rfl rfl)
theorem dX8_areTold_10 : decode cX8_areTold 10 = .ok (.getfield 99, 3) := dk_180 0 99 (dk_at dksX8_areTold_0 10 rfl rfl)
theorem dX8_areTold_13 : decode cX8_areTold 13 = .ok (.bipush 40, 2) := dk_16 40 (dk_at dksX8_areTold_0 13 rfl rfl)
theorem dX8_areTold_15 : decode cX8_areTold 15 = .ok (.if_icmp .gt 7, 3) := dk_163 0 7 (dk_at dksX8_areTold_0 15 rfl rfl)
theorem dX8_areTold_18 : decode cX8_areTold 18 = .ok (.iconst 1, 1) := dk_4 (dk_at dksX8_areTold_0 18 rfl rfl)
theorem dX8_areTold_19 : decode cX8_areTold 19 = .ok (.goto 4, 3) := dk_167 0 4 (dk_at dksX8_areTold_0 19 rfl rfl)
theorem dX8_areTold_22 : decode cX8_areTold 22 = .ok (.iconst 0, 1) := dk_3 (dk_at dksX8_areTold_0 22 rfl rfl)
theorem dX8_areTold_23 : decode cX8_areTold 23 = .ok (.istore_n 1, 1) := dk_60 (dk_at dksX8_areTold_0 23 rfl rfl)
theorem dX8_areTold_24 : decode cX8_areTold 24 = .ok (.iconst 0, 1) := dk_3 (dk_at dksX8_areTold_1 0 rfl rfl)
theorem dX8_areTold_25 : decode cX8_areTold 25 = .ok (.istore_n 2, 1) := dk_61 (dk_at dksX8_areTold_1 1 rfl rfl)
theorem dX8_areTold_26 : decode cX8_areTold 26 = .ok (.iload_n 2, 1) := dk_28 (dk_at dksX8_areTold_1 2 rfl rfl)
theorem dX8_areTold_27 : decode cX8_areTold 27 = .ok (.aload_n 0, 1) := dk_42 (dk_at dksX8_areTold_1 3 rfl rfl)
theorem dX8_areTold_28 : decode cX8_areTold 28 = .ok (.getfield 99, 3) := dk_180 0 99 (dk_at dksX8_areTold_1 4 rfl rfl)
theorem dX8_areTold_31 : decode cX8_areTold 31 = .ok (.if_icmp .ge 51, 3) := dk_162 0 51 (dk_at dksX8_areTold_1 7 rfl rfl)
theorem dX8_areTold_34 : decode cX8_areTold 34 = .ok (.iload_n 1, 1) := dk_27 (dk_at dksX8_areTold_1 10 rfl rfl)
theorem dX8_areTold_35 : decode cX8_areTold 35 = .ok (.ifCond .eq 47, 3) := dk_153 0 47 (dk_at dksX8_areTold_1 11 rfl rfl)
theorem dX8_areTold_38 : decode cX8_areTold 38 = .ok (.aload_n 0, 1) := dk_42 (dk_at dksX8_areTold_1 14 rfl rfl)
theorem dX8_areTold_39 : decode cX8_areTold 39 = .ok (.getfield 29, 3) := dk_180 0 29 (dk_at dksX8_areTold_1 15 rfl rfl)
theorem dX8_areTold_42 : decode cX8_areTold 42 = .ok (.iload_n 2, 1) := dk_28 (dk_at dksX8_areTold_1 18 rfl rfl)
theorem dX8_areTold_43 : decode cX8_areTold 43 = .ok (.baload, 1) := dk_51 (dk_at dksX8_areTold_1 19 rfl rfl)
theorem dX8_areTold_44 : decode cX8_areTold 44 = .ok (.iconst 0, 1) := dk_3 (dk_at dksX8_areTold_1 20 rfl rfl)
theorem dX8_areTold_45 : decode cX8_areTold 45 = .ok (.bipush 6, 2) := dk_16 6 (dk_at dksX8_areTold_1 21 rfl rfl)
theorem dX8_areTold_47 : decode cX8_areTold 47 = .ok (.invokestatic 88, 3) := dk_184 0 88 (dk_at dksX8_areTold_2 0 rfl rfl)
theorem dX8_areTold_50 : decode cX8_areTold 50 = .ok (.ifCond .eq 24, 3) := dk_153 0 24 (dk_at dksX8_areTold_2 3 rfl rfl)
theorem dX8_areTold_53 : decode cX8_areTold 53 = .ok (.aload_n 0, 1) := dk_42 (dk_at dksX8_areTold_2 6 rfl rfl)
theorem dX8_areTold_54 : decode cX8_areTold 54 = .ok (.getfield 29, 3) := dk_180 0 29 (dk_at dksX8_areTold_2 7 rfl rfl)
theorem dX8_areTold_57 : decode cX8_areTold 57 = .ok (.iload_n 2, 1) := dk_28 (dk_at dksX8_areTold_2 10 rfl rfl)
theorem dX8_areTold_58 : decode cX8_areTold 58 = .ok (.iconst 1, 1) := dk_4 (dk_at dksX8_areTold_2 11 rfl rfl)
theorem dX8_areTold_59 : decode cX8_areTold 59 = .ok (.iadd, 1) := dk_96 (dk_at dksX8_areTold_2 12 rfl rfl)
theorem dX8_areTold_60 : decode cX8_areTold 60 = .ok (.baload, 1) := dk_51 (dk_at dksX8_areTold_2 13 rfl rfl)
theorem dX8_areTold_61 : decode cX8_areTold 61 = .ok (.iconst 0, 1) := dk_3 (dk_at dksX8_areTold_2 14 rfl rfl)
theorem dX8_areTold_62 : decode cX8_areTold 62 = .ok (.bipush 10, 2) := dk_16 10 (dk_at dksX8_areTold_2 15 rfl rfl)
theorem dX8_areTold_64 : decode cX8_areTold 64 = .ok (.invokestatic 88, 3) := dk_184 0 88 (dk_at dksX8_areTold_2 17 rfl rfl)
theorem dX8_areTold_67 : decode cX8_areTold 67 = .ok (.ifCond .eq 7, 3) := dk_153 0 7 (dk_at dksX8_areTold_2 20 rfl rfl)
theorem dX8_areTold_70 : decode cX8_areTold 70 = .ok (.iconst 1, 1) := dk_4 (dk_at dksX8_areTold_2 23 rfl rfl)
theorem dX8_areTold_71 : decode cX8_areTold 71 = .ok (.goto 4, 3) := dk_167 0 4 (dk_at dksX8_areTold_3 0 rfl rfl)
theorem dX8_areTold_74 : decode cX8_areTold 74 = .ok (.iconst 0, 1) := dk_3 (dk_at dksX8_areTold_3 3 rfl rfl)
theorem dX8_areTold_75 : decode cX8_areTold 75 = .ok (.istore_n 1, 1) := dk_60 (dk_at dksX8_areTold_3 4 rfl rfl)
theorem dX8_areTold_76 : decode cX8_areTold 76 = .ok (.iinc 2 2, 3) := dk_132 2 2 (dk_at dksX8_areTold_3 5 rfl rfl)
theorem dX8_areTold_79 : decode cX8_areTold 79 = .ok (.goto (-53), 3) := dk_167 255 203 (dk_at dksX8_areTold_3 8 rfl rfl)
theorem dX8_areTold_82 : decode cX8_areTold 82 = .ok (.iload_n 1, 1) := dk_27 (dk_at dksX8_areTold_3 11 rfl rfl)
theorem dX8_areTold_83 : decode cX8_areTold 83 = .ok (.ireturn, 1) := dk_172 (dk_at dksX8_areTold_3 12 rfl rfl)
abbrev cX8_thatFit : ByteArray := prog_19_method_131_code
def yX8_thatFit : MethodName := ⟨RX8, "thatFit", "(I)I"⟩
def dkwX8_thatFit_1 : List UInt8 := [120, 167, 0, 4, 3, 128, 61, 132, 3, 1, 167, 255, 226, 28, 172]
abbrev dktX8_thatFit_1 : List UInt8 := dkwX8_thatFit_1 ++ []
def dkwX8_thatFit_0 : List UInt8 := [3, 61, 3, 62, 29, 42, 182, 0, 84, 162, 0, 28, 28, 42, 29, 182, 1, 238, 27, 163, 0, 9, 4, 29]
abbrev dktX8_thatFit_0 : List UInt8 := dkwX8_thatFit_0 ++ dktX8_thatFit_1
theorem dksX8_thatFit_0 : cX8_thatFit.data.toList.drop 0 = dktX8_thatFit_0 := by decide +kernel
theorem dksX8_thatFit_1 : cX8_thatFit.data.toList.drop 24 = dktX8_thatFit_1 := dk_seg dksX8_thatFit_0 24 rfl rfl
theorem dX8_thatFit_0 : decode cX8_thatFit 0 = .ok (.iconst 0, 1) := dk_3 (dk_at dksX8_thatFit_0 0 rfl rfl)
theorem dX8_thatFit_1 : decode cX8_thatFit 1 = .ok (.istore_n 2, 1) := dk_61 (dk_at dksX8_thatFit_0 1 rfl rfl)
theorem dX8_thatFit_2 : decode cX8_thatFit 2 = .ok (.iconst 0, 1) := dk_3 (dk_at dksX8_thatFit_0 2 rfl rfl)
theorem dX8_thatFit_3 : decode cX8_thatFit 3 = .ok (.istore_n 3, 1) := dk_62 (dk_at dksX8_thatFit_0 3 rfl rfl)
theorem dX8_thatFit_4 : decode cX8_thatFit 4 = .ok (.iload_n 3, 1) := dk_29 (dk_at dksX8_thatFit_0 4 rfl rfl)
theorem dX8_thatFit_5 : decode cX8_thatFit 5 = .ok (.aload_n 0, 1) := dk_42 (dk_at dksX8_thatFit_0 5 rfl rfl)
theorem dX8_thatFit_6 : decode cX8_thatFit 6 = .ok (.invokevirtual 84, 3) := dk_182 0 84 (dk_at dksX8_thatFit_0 6 rfl rfl)
theorem dX8_thatFit_9 : decode cX8_thatFit 9 = .ok (.if_icmp .ge 28, 3) := dk_162 0 28 (dk_at dksX8_thatFit_0 9 rfl rfl)
theorem dX8_thatFit_12 : decode cX8_thatFit 12 = .ok (.iload_n 2, 1) := dk_28 (dk_at dksX8_thatFit_0 12 rfl rfl)
theorem dX8_thatFit_13 : decode cX8_thatFit 13 = .ok (.aload_n 0, 1) := dk_42 (dk_at dksX8_thatFit_0 13 rfl rfl)
theorem dX8_thatFit_14 : decode cX8_thatFit 14 = .ok (.iload_n 3, 1) := dk_29 (dk_at dksX8_thatFit_0 14 rfl rfl)
theorem dX8_thatFit_15 : decode cX8_thatFit 15 = .ok (.invokevirtual 494, 3) := dk_182 1 238 (dk_at dksX8_thatFit_0 15 rfl rfl)
theorem dX8_thatFit_18 : decode cX8_thatFit 18 = .ok (.iload_n 1, 1) := dk_27 (dk_at dksX8_thatFit_0 18 rfl rfl)
theorem dX8_thatFit_19 : decode cX8_thatFit 19 = .ok (.if_icmp .gt 9, 3) := dk_163 0 9 (dk_at dksX8_thatFit_0 19 rfl rfl)
theorem dX8_thatFit_22 : decode cX8_thatFit 22 = .ok (.iconst 1, 1) := dk_4 (dk_at dksX8_thatFit_0 22 rfl rfl)
theorem dX8_thatFit_23 : decode cX8_thatFit 23 = .ok (.iload_n 3, 1) := dk_29 (dk_at dksX8_thatFit_0 23 rfl rfl)
theorem dX8_thatFit_24 : decode cX8_thatFit 24 = .ok (.ishl, 1) := dk_120 (dk_at dksX8_thatFit_1 0 rfl rfl)
theorem dX8_thatFit_25 : decode cX8_thatFit 25 = .ok (.goto 4, 3) := dk_167 0 4 (dk_at dksX8_thatFit_1 1 rfl rfl)
theorem dX8_thatFit_28 : decode cX8_thatFit 28 = .ok (.iconst 0, 1) := dk_3 (dk_at dksX8_thatFit_1 4 rfl rfl)
theorem dX8_thatFit_29 : decode cX8_thatFit 29 = .ok (.ior, 1) := dk_128 (dk_at dksX8_thatFit_1 5 rfl rfl)
theorem dX8_thatFit_30 : decode cX8_thatFit 30 = .ok (.istore_n 2, 1) := dk_61 (dk_at dksX8_thatFit_1 6 rfl rfl)
theorem dX8_thatFit_31 : decode cX8_thatFit 31 = .ok (.iinc 3 1, 3) := dk_132 3 1 (dk_at dksX8_thatFit_1 7 rfl rfl)
theorem dX8_thatFit_34 : decode cX8_thatFit 34 = .ok (.goto (-30), 3) := dk_167 255 226 (dk_at dksX8_thatFit_1 10 rfl rfl)
theorem dX8_thatFit_37 : decode cX8_thatFit 37 = .ok (.iload_n 2, 1) := dk_28 (dk_at dksX8_thatFit_1 13 rfl rfl)
theorem dX8_thatFit_38 : decode cX8_thatFit 38 = .ok (.ireturn, 1) := dk_172 (dk_at dksX8_thatFit_1 14 rfl rfl)
abbrev cX8_wrongRows : ByteArray := prog_19_method_130_code
def yX8_wrongRows : MethodName := ⟨RX8, "wrongRows", "(I)I"⟩
def dkwX8_wrongRows_2 : List UInt8 := [28, 172]
abbrev dktX8_wrongRows_2 : List UInt8 := dkwX8_wrongRows_2 ++ []
def dkwX8_wrongRows_1 : List UInt8 := [42, 180, 0, 29, 29, 4, 96, 51, 160, 0, 7, 3, 167, 0, 4, 4, 96, 61, 132, 3, 2, 167, 255, 215]
abbrev dktX8_wrongRows_1 : List UInt8 := dkwX8_wrongRows_1 ++ dktX8_wrongRows_2
def dkwX8_wrongRows_0 : List UInt8 := [3, 61, 3, 62, 29, 42, 180, 0, 99, 162, 0, 39, 28, 42, 27, 42, 180, 0, 29, 29, 51, 182, 1, 235]
abbrev dktX8_wrongRows_0 : List UInt8 := dkwX8_wrongRows_0 ++ dktX8_wrongRows_1
theorem dksX8_wrongRows_0 : cX8_wrongRows.data.toList.drop 0 = dktX8_wrongRows_0 := by decide +kernel
theorem dksX8_wrongRows_1 : cX8_wrongRows.data.toList.drop 24 = dktX8_wrongRows_1 := dk_seg dksX8_wrongRows_0 24 rfl rfl
theorem dksX8_wrongRows_2 : cX8_wrongRows.data.toList.drop 48 = dktX8_wrongRows_2 := dk_seg dksX8_wrongRows_1 24 rfl rfl
theorem dX8_wrongRows_0 : decode cX8_wrongRows 0 = .ok (.iconst 0, 1) := dk_3 (dk_at dksX8_wrongRows_0 0 rfl rfl)
theorem dX8_wrongRows_1 : decode cX8_wrongRows 1 = .ok (.istore_n 2, 1) := dk_61 (dk_at dksX8_wrongRows_0 1 rfl rfl)
theorem dX8_wrongRows_2 : decode cX8_wrongRows 2 = .ok (.iconst 0, 1) := dk_3 (dk_at dksX8_wrongRows_0 2 rfl rfl)
theorem dX8_wrongRows_3 : decode cX8_wrongRows 3 = .ok (.istore_n 3, 1) := dk_62 (dk_at dksX8_wrongRows_0 3 rfl rfl)
theorem dX8_wrongRows_4 : decode cX8_wrongRows 4 = .ok (.iload_n 3, 1) := dk_29 (dk_at dksX8_wrongRows_0 4 rfl rfl)
theorem dX8_wrongRows_5 : decode cX8_wrongRows 5 = .ok (.aload_n 0, 1) := dk_42 (dk_at dksX8_wrongRows_0 5 rfl rfl)
theorem dX8_wrongRows_6 : decode cX8_wrongRows 6 = .ok (.getfield 99, 3) := dk_180 0 99 (dk_at dksX8_wrongRows_0 6 rfl rfl)
theorem dX8_wrongRows_9 : decode cX8_wrongRows 9 = .ok (.if_icmp .ge 39, 3) := dk_162 0 39 (dk_at dksX8_wrongRows_0 9 rfl rfl)
theorem dX8_wrongRows_12 : decode cX8_wrongRows 12 = .ok (.iload_n 2, 1) := dk_28 (dk_at dksX8_wrongRows_0 12 rfl rfl)
theorem dX8_wrongRows_13 : decode cX8_wrongRows 13 = .ok (.aload_n 0, 1) := dk_42 (dk_at dksX8_wrongRows_0 13 rfl rfl)
theorem dX8_wrongRows_14 : decode cX8_wrongRows 14 = .ok (.iload_n 1, 1) := dk_27 (dk_at dksX8_wrongRows_0 14 rfl rfl)
theorem dX8_wrongRows_15 : decode cX8_wrongRows 15 = .ok (.aload_n 0, 1) := dk_42 (dk_at dksX8_wrongRows_0 15 rfl rfl)
theorem dX8_wrongRows_16 : decode cX8_wrongRows 16 = .ok (.getfield 29, 3) := dk_180 0 29 (dk_at dksX8_wrongRows_0 16 rfl rfl)
theorem dX8_wrongRows_19 : decode cX8_wrongRows 19 = .ok (.iload_n 3, 1) := dk_29 (dk_at dksX8_wrongRows_0 19 rfl rfl)
theorem dX8_wrongRows_20 : decode cX8_wrongRows 20 = .ok (.baload, 1) := dk_51 (dk_at dksX8_wrongRows_0 20 rfl rfl)
theorem dX8_wrongRows_21 : decode cX8_wrongRows 21 = .ok (.invokevirtual 491, 3) := dk_182 1 235 (dk_at dksX8_wrongRows_0 21 rfl rfl)
theorem dX8_wrongRows_24 : decode cX8_wrongRows 24 = .ok (.aload_n 0, 1) := dk_42 (dk_at dksX8_wrongRows_1 0 rfl rfl)
theorem dX8_wrongRows_25 : decode cX8_wrongRows 25 = .ok (.getfield 29, 3) := dk_180 0 29 (dk_at dksX8_wrongRows_1 1 rfl rfl)
theorem dX8_wrongRows_28 : decode cX8_wrongRows 28 = .ok (.iload_n 3, 1) := dk_29 (dk_at dksX8_wrongRows_1 4 rfl rfl)
theorem dX8_wrongRows_29 : decode cX8_wrongRows 29 = .ok (.iconst 1, 1) := dk_4 (dk_at dksX8_wrongRows_1 5 rfl rfl)
theorem dX8_wrongRows_30 : decode cX8_wrongRows 30 = .ok (.iadd, 1) := dk_96 (dk_at dksX8_wrongRows_1 6 rfl rfl)
theorem dX8_wrongRows_31 : decode cX8_wrongRows 31 = .ok (.baload, 1) := dk_51 (dk_at dksX8_wrongRows_1 7 rfl rfl)
theorem dX8_wrongRows_32 : decode cX8_wrongRows 32 = .ok (.if_icmp .ne 7, 3) := dk_160 0 7 (dk_at dksX8_wrongRows_1 8 rfl rfl)
theorem dX8_wrongRows_35 : decode cX8_wrongRows 35 = .ok (.iconst 0, 1) := dk_3 (dk_at dksX8_wrongRows_1 11 rfl rfl)
theorem dX8_wrongRows_36 : decode cX8_wrongRows 36 = .ok (.goto 4, 3) := dk_167 0 4 (dk_at dksX8_wrongRows_1 12 rfl rfl)
theorem dX8_wrongRows_39 : decode cX8_wrongRows 39 = .ok (.iconst 1, 1) := dk_4 (dk_at dksX8_wrongRows_1 15 rfl rfl)
theorem dX8_wrongRows_40 : decode cX8_wrongRows 40 = .ok (.iadd, 1) := dk_96 (dk_at dksX8_wrongRows_1 16 rfl rfl)
theorem dX8_wrongRows_41 : decode cX8_wrongRows 41 = .ok (.istore_n 2, 1) := dk_61 (dk_at dksX8_wrongRows_1 17 rfl rfl)
theorem dX8_wrongRows_42 : decode cX8_wrongRows 42 = .ok (.iinc 3 2, 3) := dk_132 3 2 (dk_at dksX8_wrongRows_1 18 rfl rfl)
theorem dX8_wrongRows_45 : decode cX8_wrongRows 45 = .ok (.goto (-41), 3) := dk_167 255 215 (dk_at dksX8_wrongRows_1 21 rfl rfl)
theorem dX8_wrongRows_48 : decode cX8_wrongRows 48 = .ok (.iload_n 2, 1) := dk_28 (dk_at dksX8_wrongRows_2 0 rfl rfl)
theorem dX8_wrongRows_49 : decode cX8_wrongRows 49 = .ok (.ireturn, 1) := dk_172 (dk_at dksX8_wrongRows_2 1 rfl rfl)
abbrev cX8_whatOf : ByteArray := prog_19_method_129_code
def yX8_whatOf : MethodName := ⟨RX8, "whatOf", "(II)I"⟩
def dkwX8_whatOf_1 : List UInt8 := [182, 1, 42, 167, 0, 15, 42, 180, 0, 45, 27, 46, 28, 5, 100, 122, 4, 126, 172]
abbrev dktX8_whatOf_1 : List UInt8 := dkwX8_whatOf_1 ++ []
def dkwX8_whatOf_0 : List UInt8 := [28, 5, 162, 0, 12, 42, 27, 28, 182, 0, 78, 167, 0, 30, 28, 16, 6, 160, 0, 12, 42, 27, 3]
abbrev dktX8_whatOf_0 : List UInt8 := dkwX8_whatOf_0 ++ dktX8_whatOf_1
theorem dksX8_whatOf_0 : cX8_whatOf.data.toList.drop 0 = dktX8_whatOf_0 := by decide +kernel
theorem dksX8_whatOf_1 : cX8_whatOf.data.toList.drop 23 = dktX8_whatOf_1 := dk_seg dksX8_whatOf_0 23 rfl rfl
theorem dX8_whatOf_0 : decode cX8_whatOf 0 = .ok (.iload_n 2, 1) := dk_28 (dk_at dksX8_whatOf_0 0 rfl rfl)
theorem dX8_whatOf_1 : decode cX8_whatOf 1 = .ok (.iconst 2, 1) := dk_5 (dk_at dksX8_whatOf_0 1 rfl rfl)
theorem dX8_whatOf_2 : decode cX8_whatOf 2 = .ok (.if_icmp .ge 12, 3) := dk_162 0 12 (dk_at dksX8_whatOf_0 2 rfl rfl)
theorem dX8_whatOf_5 : decode cX8_whatOf 5 = .ok (.aload_n 0, 1) := dk_42 (dk_at dksX8_whatOf_0 5 rfl rfl)
theorem dX8_whatOf_6 : decode cX8_whatOf 6 = .ok (.iload_n 1, 1) := dk_27 (dk_at dksX8_whatOf_0 6 rfl rfl)
theorem dX8_whatOf_7 : decode cX8_whatOf 7 = .ok (.iload_n 2, 1) := dk_28 (dk_at dksX8_whatOf_0 7 rfl rfl)
theorem dX8_whatOf_8 : decode cX8_whatOf 8 = .ok (.invokevirtual 78, 3) := dk_182 0 78 (dk_at dksX8_whatOf_0 8 rfl rfl)
theorem dX8_whatOf_11 : decode cX8_whatOf 11 = .ok (.goto 30, 3) := dk_167 0 30 (dk_at dksX8_whatOf_0 11 rfl rfl)
theorem dX8_whatOf_14 : decode cX8_whatOf 14 = .ok (.iload_n 2, 1) := dk_28 (dk_at dksX8_whatOf_0 14 rfl rfl)
theorem dX8_whatOf_15 : decode cX8_whatOf 15 = .ok (.bipush 6, 2) := dk_16 6 (dk_at dksX8_whatOf_0 15 rfl rfl)
theorem dX8_whatOf_17 : decode cX8_whatOf 17 = .ok (.if_icmp .ne 12, 3) := dk_160 0 12 (dk_at dksX8_whatOf_0 17 rfl rfl)
theorem dX8_whatOf_20 : decode cX8_whatOf 20 = .ok (.aload_n 0, 1) := dk_42 (dk_at dksX8_whatOf_0 20 rfl rfl)
theorem dX8_whatOf_21 : decode cX8_whatOf 21 = .ok (.iload_n 1, 1) := dk_27 (dk_at dksX8_whatOf_0 21 rfl rfl)
theorem dX8_whatOf_22 : decode cX8_whatOf 22 = .ok (.iconst 0, 1) := dk_3 (dk_at dksX8_whatOf_0 22 rfl rfl)
theorem dX8_whatOf_23 : decode cX8_whatOf 23 = .ok (.invokevirtual 298, 3) := dk_182 1 42 (dk_at dksX8_whatOf_1 0 rfl rfl)
theorem dX8_whatOf_26 : decode cX8_whatOf 26 = .ok (.goto 15, 3) := dk_167 0 15 (dk_at dksX8_whatOf_1 3 rfl rfl)
theorem dX8_whatOf_29 : decode cX8_whatOf 29 = .ok (.aload_n 0, 1) := dk_42 (dk_at dksX8_whatOf_1 6 rfl rfl)
theorem dX8_whatOf_30 : decode cX8_whatOf 30 = .ok (.getfield 45, 3) := dk_180 0 45 (dk_at dksX8_whatOf_1 7 rfl rfl)
theorem dX8_whatOf_33 : decode cX8_whatOf 33 = .ok (.iload_n 1, 1) := dk_27 (dk_at dksX8_whatOf_1 10 rfl rfl)
theorem dX8_whatOf_34 : decode cX8_whatOf 34 = .ok (.iaload, 1) := dk_46 (dk_at dksX8_whatOf_1 11 rfl rfl)
theorem dX8_whatOf_35 : decode cX8_whatOf 35 = .ok (.iload_n 2, 1) := dk_28 (dk_at dksX8_whatOf_1 12 rfl rfl)
theorem dX8_whatOf_36 : decode cX8_whatOf 36 = .ok (.iconst 2, 1) := dk_5 (dk_at dksX8_whatOf_1 13 rfl rfl)
theorem dX8_whatOf_37 : decode cX8_whatOf 37 = .ok (.isub, 1) := dk_100 (dk_at dksX8_whatOf_1 14 rfl rfl)
theorem dX8_whatOf_38 : decode cX8_whatOf 38 = .ok (.ishr, 1) := dk_122 (dk_at dksX8_whatOf_1 15 rfl rfl)
theorem dX8_whatOf_39 : decode cX8_whatOf 39 = .ok (.iconst 1, 1) := dk_4 (dk_at dksX8_whatOf_1 16 rfl rfl)
theorem dX8_whatOf_40 : decode cX8_whatOf 40 = .ok (.iand, 1) := dk_126 (dk_at dksX8_whatOf_1 17 rfl rfl)
theorem dX8_whatOf_41 : decode cX8_whatOf 41 = .ok (.ireturn, 1) := dk_172 (dk_at dksX8_whatOf_1 18 rfl rfl)
abbrev cX8_likely : ByteArray := prog_19_method_134_code
def yX8_likely : MethodName := ⟨RX8, "likely", "()I"⟩
def dkwX8_likely_2 : List UInt8 := [182, 1, 244, 60, 27, 154, 0, 7, 2, 167, 0, 7, 27, 184, 1, 250, 172]
abbrev dktX8_likely_2 : List UInt8 := dkwX8_likely_2 ++ []
def dkwX8_likely_1 : List UInt8 := [3, 172, 42, 182, 1, 167, 42, 3, 182, 1, 244, 153, 0, 11, 42, 3, 182, 1, 244, 167, 0, 8, 42, 4]
abbrev dktX8_likely_1 : List UInt8 := dkwX8_likely_1 ++ dktX8_likely_2
def dkwX8_likely_0 : List UInt8 := [42, 182, 1, 14, 42, 42, 182, 1, 241, 154, 0, 7, 4, 167, 0, 4, 3, 4, 182, 1, 24, 153, 0, 5]
abbrev dktX8_likely_0 : List UInt8 := dkwX8_likely_0 ++ dktX8_likely_1
theorem dksX8_likely_0 : cX8_likely.data.toList.drop 0 = dktX8_likely_0 := by decide +kernel
theorem dksX8_likely_1 : cX8_likely.data.toList.drop 24 = dktX8_likely_1 := dk_seg dksX8_likely_0 24 rfl rfl
theorem dksX8_likely_2 : cX8_likely.data.toList.drop 48 = dktX8_likely_2 := dk_seg dksX8_likely_1 24 rfl rfl
theorem dX8_likely_0 : decode cX8_likely 0 = .ok (.aload_n 0, 1) := dk_42 (dk_at dksX8_likely_0 0 rfl rfl)
theorem dX8_likely_1 : decode cX8_likely 1 = .ok (.invokevirtual 270, 3) := dk_182 1 14 (dk_at dksX8_likely_0 1 rfl rfl)
theorem dX8_likely_4 : decode cX8_likely 4 = .ok (.aload_n 0, 1) := dk_42 (dk_at dksX8_likely_0 4 rfl rfl)
theorem dX8_likely_5 : decode cX8_likely 5 = .ok (.aload_n 0, 1) := dk_42 (dk_at dksX8_likely_0 5 rfl rfl)
theorem dX8_likely_6 : decode cX8_likely 6 = .ok (.invokevirtual 497, 3) := dk_182 1 241 (dk_at dksX8_likely_0 6 rfl rfl)
theorem dX8_likely_9 : decode cX8_likely 9 = .ok (.ifCond .ne 7, 3) := dk_154 0 7 (dk_at dksX8_likely_0 9 rfl rfl)
theorem dX8_likely_12 : decode cX8_likely 12 = .ok (.iconst 1, 1) := dk_4 (dk_at dksX8_likely_0 12 rfl rfl)
theorem dX8_likely_13 : decode cX8_likely 13 = .ok (.goto 4, 3) := dk_167 0 4 (dk_at dksX8_likely_0 13 rfl rfl)
theorem dX8_likely_16 : decode cX8_likely 16 = .ok (.iconst 0, 1) := dk_3 (dk_at dksX8_likely_0 16 rfl rfl)
theorem dX8_likely_17 : decode cX8_likely 17 = .ok (.iconst 1, 1) := dk_4 (dk_at dksX8_likely_0 17 rfl rfl)
theorem dX8_likely_18 : decode cX8_likely 18 = .ok (.invokevirtual 280, 3) := dk_182 1 24 (dk_at dksX8_likely_0 18 rfl rfl)
theorem dX8_likely_21 : decode cX8_likely 21 = .ok (.ifCond .eq 5, 3) := dk_153 0 5 (dk_at dksX8_likely_0 21 rfl rfl)
theorem dX8_likely_24 : decode cX8_likely 24 = .ok (.iconst 0, 1) := dk_3 (dk_at dksX8_likely_1 0 rfl rfl)
theorem dX8_likely_25 : decode cX8_likely 25 = .ok (.ireturn, 1) := dk_172 (dk_at dksX8_likely_1 1 rfl rfl)
theorem dX8_likely_26 : decode cX8_likely 26 = .ok (.aload_n 0, 1) := dk_42 (dk_at dksX8_likely_1 2 rfl rfl)
theorem dX8_likely_27 : decode cX8_likely 27 = .ok (.invokevirtual 423, 3) := dk_182 1 167 (dk_at dksX8_likely_1 3 rfl rfl)
theorem dX8_likely_30 : decode cX8_likely 30 = .ok (.aload_n 0, 1) := dk_42 (dk_at dksX8_likely_1 6 rfl rfl)
theorem dX8_likely_31 : decode cX8_likely 31 = .ok (.iconst 0, 1) := dk_3 (dk_at dksX8_likely_1 7 rfl rfl)
theorem dX8_likely_32 : decode cX8_likely 32 = .ok (.invokevirtual 500, 3) := dk_182 1 244 (dk_at dksX8_likely_1 8 rfl rfl)
theorem dX8_likely_35 : decode cX8_likely 35 = .ok (.ifCond .eq 11, 3) := dk_153 0 11 (dk_at dksX8_likely_1 11 rfl rfl)
theorem dX8_likely_38 : decode cX8_likely 38 = .ok (.aload_n 0, 1) := dk_42 (dk_at dksX8_likely_1 14 rfl rfl)
theorem dX8_likely_39 : decode cX8_likely 39 = .ok (.iconst 0, 1) := dk_3 (dk_at dksX8_likely_1 15 rfl rfl)
theorem dX8_likely_40 : decode cX8_likely 40 = .ok (.invokevirtual 500, 3) := dk_182 1 244 (dk_at dksX8_likely_1 16 rfl rfl)
theorem dX8_likely_43 : decode cX8_likely 43 = .ok (.goto 8, 3) := dk_167 0 8 (dk_at dksX8_likely_1 19 rfl rfl)
theorem dX8_likely_46 : decode cX8_likely 46 = .ok (.aload_n 0, 1) := dk_42 (dk_at dksX8_likely_1 22 rfl rfl)
theorem dX8_likely_47 : decode cX8_likely 47 = .ok (.iconst 1, 1) := dk_4 (dk_at dksX8_likely_1 23 rfl rfl)
theorem dX8_likely_48 : decode cX8_likely 48 = .ok (.invokevirtual 500, 3) := dk_182 1 244 (dk_at dksX8_likely_2 0 rfl rfl)
theorem dX8_likely_51 : decode cX8_likely 51 = .ok (.istore_n 1, 1) := dk_60 (dk_at dksX8_likely_2 3 rfl rfl)
theorem dX8_likely_52 : decode cX8_likely 52 = .ok (.iload_n 1, 1) := dk_27 (dk_at dksX8_likely_2 4 rfl rfl)
theorem dX8_likely_53 : decode cX8_likely 53 = .ok (.ifCond .ne 7, 3) := dk_154 0 7 (dk_at dksX8_likely_2 5 rfl rfl)
theorem dX8_likely_56 : decode cX8_likely 56 = .ok (.iconst (-1), 1) := dk_2 (dk_at dksX8_likely_2 8 rfl rfl)
theorem dX8_likely_57 : decode cX8_likely 57 = .ok (.goto 7, 3) := dk_167 0 7 (dk_at dksX8_likely_2 9 rfl rfl)
theorem dX8_likely_60 : decode cX8_likely 60 = .ok (.iload_n 1, 1) := dk_27 (dk_at dksX8_likely_2 12 rfl rfl)
theorem dX8_likely_61 : decode cX8_likely 61 = .ok (.invokestatic 506, 3) := dk_184 1 250 (dk_at dksX8_likely_2 13 rfl rfl)
theorem dX8_likely_64 : decode cX8_likely 64 = .ok (.ireturn, 1) := dk_172 (dk_at dksX8_likely_2 16 rfl rfl)
abbrev cX8_firstOf : ByteArray := prog_19_method_133_code
def yX8_firstOf : MethodName := ⟨RX8, "firstOf", "(I)I"⟩
theorem dX8_firstOf_0 : decode cX8_firstOf 0 = .ok (.iload_n 0, 1) := by decide +kernel
theorem dX8_firstOf_1 : decode cX8_firstOf 1 = .ok (.invokestatic 503, 3) := by decide +kernel
theorem dX8_firstOf_4 : decode cX8_firstOf 4 = .ok (.ireturn, 1) := by decide +kernel
abbrev cX8_ask : ByteArray := prog_19_method_136_code
def yX8_ask : MethodName := ⟨RX8, "ask", "()I"⟩
def dkwX8_ask_4 : List UInt8 := [28, 172]
abbrev dktX8_ask_4 : List UInt8 := dkwX8_ask_4 ++ []
def dkwX8_ask_3 : List UInt8 := [29, 162, 0, 8, 21, 4, 167, 0, 4, 28, 61, 29, 21, 5, 184, 1, 131, 62, 132, 4, 1, 167, 255, 209]
abbrev dktX8_ask_3 : List UInt8 := dkwX8_ask_3 ++ dktX8_ask_4
def dkwX8_ask_2 : List UInt8 := [16, 6, 163, 0, 46, 27, 184, 1, 203, 4, 164, 0, 38, 42, 27, 21, 4, 182, 2, 1, 54, 5, 21, 5]
abbrev dktX8_ask_2 : List UInt8 := dkwX8_ask_2 ++ dktX8_ask_3
def dkwX8_ask_1 : List UInt8 := [3, 172, 42, 182, 1, 167, 42, 4, 182, 1, 244, 60, 2, 61, 19, 2, 0, 62, 3, 54, 4, 21, 4]
abbrev dktX8_ask_1 : List UInt8 := dkwX8_ask_1 ++ dktX8_ask_2
def dkwX8_ask_0 : List UInt8 := [42, 182, 1, 14, 42, 42, 182, 1, 241, 154, 0, 7, 4, 167, 0, 4, 3, 4, 182, 1, 24, 153, 0, 5]
abbrev dktX8_ask_0 : List UInt8 := dkwX8_ask_0 ++ dktX8_ask_1
theorem dksX8_ask_0 : cX8_ask.data.toList.drop 0 = dktX8_ask_0 := by decide +kernel
theorem dksX8_ask_1 : cX8_ask.data.toList.drop 24 = dktX8_ask_1 := dk_seg dksX8_ask_0 24 rfl rfl
theorem dksX8_ask_2 : cX8_ask.data.toList.drop 47 = dktX8_ask_2 := dk_seg dksX8_ask_1 23 rfl rfl
theorem dksX8_ask_3 : cX8_ask.data.toList.drop 71 = dktX8_ask_3 := dk_seg dksX8_ask_2 24 rfl rfl
theorem dksX8_ask_4 : cX8_ask.data.toList.drop 95 = dktX8_ask_4 := dk_seg dksX8_ask_3 24 rfl rfl
theorem dX8_ask_0 : decode cX8_ask 0 = .ok (.aload_n 0, 1) := dk_42 (dk_at dksX8_ask_0 0 rfl rfl)
theorem dX8_ask_1 : decode cX8_ask 1 = .ok (.invokevirtual 270, 3) := dk_182 1 14 (dk_at dksX8_ask_0 1 rfl rfl)
theorem dX8_ask_4 : decode cX8_ask 4 = .ok (.aload_n 0, 1) := dk_42 (dk_at dksX8_ask_0 4 rfl rfl)
theorem dX8_ask_5 : decode cX8_ask 5 = .ok (.aload_n 0, 1) := dk_42 (dk_at dksX8_ask_0 5 rfl rfl)
theorem dX8_ask_6 : decode cX8_ask 6 = .ok (.invokevirtual 497, 3) := dk_182 1 241 (dk_at dksX8_ask_0 6 rfl rfl)
theorem dX8_ask_9 : decode cX8_ask 9 = .ok (.ifCond .ne 7, 3) := dk_154 0 7 (dk_at dksX8_ask_0 9 rfl rfl)
theorem dX8_ask_12 : decode cX8_ask 12 = .ok (.iconst 1, 1) := dk_4 (dk_at dksX8_ask_0 12 rfl rfl)
theorem dX8_ask_13 : decode cX8_ask 13 = .ok (.goto 4, 3) := dk_167 0 4 (dk_at dksX8_ask_0 13 rfl rfl)
theorem dX8_ask_16 : decode cX8_ask 16 = .ok (.iconst 0, 1) := dk_3 (dk_at dksX8_ask_0 16 rfl rfl)
theorem dX8_ask_17 : decode cX8_ask 17 = .ok (.iconst 1, 1) := dk_4 (dk_at dksX8_ask_0 17 rfl rfl)
theorem dX8_ask_18 : decode cX8_ask 18 = .ok (.invokevirtual 280, 3) := dk_182 1 24 (dk_at dksX8_ask_0 18 rfl rfl)
theorem dX8_ask_21 : decode cX8_ask 21 = .ok (.ifCond .eq 5, 3) := dk_153 0 5 (dk_at dksX8_ask_0 21 rfl rfl)
theorem dX8_ask_24 : decode cX8_ask 24 = .ok (.iconst 0, 1) := dk_3 (dk_at dksX8_ask_1 0 rfl rfl)
theorem dX8_ask_25 : decode cX8_ask 25 = .ok (.ireturn, 1) := dk_172 (dk_at dksX8_ask_1 1 rfl rfl)
theorem dX8_ask_26 : decode cX8_ask 26 = .ok (.aload_n 0, 1) := dk_42 (dk_at dksX8_ask_1 2 rfl rfl)
theorem dX8_ask_27 : decode cX8_ask 27 = .ok (.invokevirtual 423, 3) := dk_182 1 167 (dk_at dksX8_ask_1 3 rfl rfl)
theorem dX8_ask_30 : decode cX8_ask 30 = .ok (.aload_n 0, 1) := dk_42 (dk_at dksX8_ask_1 6 rfl rfl)
theorem dX8_ask_31 : decode cX8_ask 31 = .ok (.iconst 1, 1) := dk_4 (dk_at dksX8_ask_1 7 rfl rfl)
theorem dX8_ask_32 : decode cX8_ask 32 = .ok (.invokevirtual 500, 3) := dk_182 1 244 (dk_at dksX8_ask_1 8 rfl rfl)
theorem dX8_ask_35 : decode cX8_ask 35 = .ok (.istore_n 1, 1) := dk_60 (dk_at dksX8_ask_1 11 rfl rfl)
theorem dX8_ask_36 : decode cX8_ask 36 = .ok (.iconst (-1), 1) := dk_2 (dk_at dksX8_ask_1 12 rfl rfl)
theorem dX8_ask_37 : decode cX8_ask 37 = .ok (.istore_n 2, 1) := dk_61 (dk_at dksX8_ask_1 13 rfl rfl)
theorem dX8_ask_38 : decode cX8_ask 38 = .ok (.ldc_w 512, 3) := dk_19 2 0 (dk_at dksX8_ask_1 14 rfl rfl)
theorem dX8_ask_41 : decode cX8_ask 41 = .ok (.istore_n 3, 1) := dk_62 (dk_at dksX8_ask_1 17 rfl rfl)
theorem dX8_ask_42 : decode cX8_ask 42 = .ok (.iconst 0, 1) := dk_3 (dk_at dksX8_ask_1 18 rfl rfl)
theorem dX8_ask_43 : decode cX8_ask 43 = .ok (.istore 4, 2) := dk_54 4 (dk_at dksX8_ask_1 19 rfl rfl)
theorem dX8_ask_45 : decode cX8_ask 45 = .ok (.iload 4, 2) := dk_21 4 (dk_at dksX8_ask_1 21 rfl rfl)
theorem dX8_ask_47 : decode cX8_ask 47 = .ok (.bipush 6, 2) := dk_16 6 (dk_at dksX8_ask_2 0 rfl rfl)
theorem dX8_ask_49 : decode cX8_ask 49 = .ok (.if_icmp .gt 46, 3) := dk_163 0 46 (dk_at dksX8_ask_2 2 rfl rfl)
theorem dX8_ask_52 : decode cX8_ask 52 = .ok (.iload_n 1, 1) := dk_27 (dk_at dksX8_ask_2 5 rfl rfl)
theorem dX8_ask_53 : decode cX8_ask 53 = .ok (.invokestatic 459, 3) := dk_184 1 203 (dk_at dksX8_ask_2 6 rfl rfl)
theorem dX8_ask_56 : decode cX8_ask 56 = .ok (.iconst 1, 1) := dk_4 (dk_at dksX8_ask_2 9 rfl rfl)
theorem dX8_ask_57 : decode cX8_ask 57 = .ok (.if_icmp .le 38, 3) := dk_164 0 38 (dk_at dksX8_ask_2 10 rfl rfl)
theorem dX8_ask_60 : decode cX8_ask 60 = .ok (.aload_n 0, 1) := dk_42 (dk_at dksX8_ask_2 13 rfl rfl)
theorem dX8_ask_61 : decode cX8_ask 61 = .ok (.iload_n 1, 1) := dk_27 (dk_at dksX8_ask_2 14 rfl rfl)
theorem dX8_ask_62 : decode cX8_ask 62 = .ok (.iload 4, 2) := dk_21 4 (dk_at dksX8_ask_2 15 rfl rfl)
theorem dX8_ask_64 : decode cX8_ask 64 = .ok (.invokevirtual 513, 3) := dk_182 2 1 (dk_at dksX8_ask_2 17 rfl rfl)
theorem dX8_ask_67 : decode cX8_ask 67 = .ok (.istore 5, 2) := dk_54 5 (dk_at dksX8_ask_2 20 rfl rfl)
theorem dX8_ask_69 : decode cX8_ask 69 = .ok (.iload 5, 2) := dk_21 5 (dk_at dksX8_ask_2 22 rfl rfl)
theorem dX8_ask_71 : decode cX8_ask 71 = .ok (.iload_n 3, 1) := dk_29 (dk_at dksX8_ask_3 0 rfl rfl)
theorem dX8_ask_72 : decode cX8_ask 72 = .ok (.if_icmp .ge 8, 3) := dk_162 0 8 (dk_at dksX8_ask_3 1 rfl rfl)
theorem dX8_ask_75 : decode cX8_ask 75 = .ok (.iload 4, 2) := dk_21 4 (dk_at dksX8_ask_3 4 rfl rfl)
theorem dX8_ask_77 : decode cX8_ask 77 = .ok (.goto 4, 3) := dk_167 0 4 (dk_at dksX8_ask_3 6 rfl rfl)
theorem dX8_ask_80 : decode cX8_ask 80 = .ok (.iload_n 2, 1) := dk_28 (dk_at dksX8_ask_3 9 rfl rfl)
theorem dX8_ask_81 : decode cX8_ask 81 = .ok (.istore_n 2, 1) := dk_61 (dk_at dksX8_ask_3 10 rfl rfl)
theorem dX8_ask_82 : decode cX8_ask 82 = .ok (.iload_n 3, 1) := dk_29 (dk_at dksX8_ask_3 11 rfl rfl)
theorem dX8_ask_83 : decode cX8_ask 83 = .ok (.iload 5, 2) := dk_21 5 (dk_at dksX8_ask_3 12 rfl rfl)
theorem dX8_ask_85 : decode cX8_ask 85 = .ok (.invokestatic 387, 3) := dk_184 1 131 (dk_at dksX8_ask_3 14 rfl rfl)
theorem dX8_ask_88 : decode cX8_ask 88 = .ok (.istore_n 3, 1) := dk_62 (dk_at dksX8_ask_3 17 rfl rfl)
theorem dX8_ask_89 : decode cX8_ask 89 = .ok (.iinc 4 1, 3) := dk_132 4 1 (dk_at dksX8_ask_3 18 rfl rfl)
theorem dX8_ask_92 : decode cX8_ask 92 = .ok (.goto (-47), 3) := dk_167 255 209 (dk_at dksX8_ask_3 21 rfl rfl)
theorem dX8_ask_95 : decode cX8_ask 95 = .ok (.iload_n 2, 1) := dk_28 (dk_at dksX8_ask_4 0 rfl rfl)
theorem dX8_ask_96 : decode cX8_ask 96 = .ok (.ireturn, 1) := dk_172 (dk_at dksX8_ask_4 1 rfl rfl)
abbrev cX8_partBy : ByteArray := prog_19_method_135_code
def yX8_partBy : MethodName := ⟨RX8, "partBy", "(II)I"⟩
def dkwX8_partBy_3 : List UInt8 := [132, 4, 1, 167, 255, 187, 29, 172]
abbrev dktX8_partBy_3 : List UInt8 := dkwX8_partBy_3 ++ []
def dkwX8_partBy_2 : List UInt8 := [160, 0, 7, 4, 167, 0, 4, 3, 96, 54, 5, 132, 6, 1, 167, 255, 213, 29, 21, 5, 184, 1, 253, 62]
abbrev dktX8_partBy_2 : List UInt8 := dkwX8_partBy_2 ++ dktX8_partBy_3
def dkwX8_partBy_1 : List UInt8 := [162, 0, 40, 21, 5, 27, 21, 6, 184, 1, 229, 153, 0, 19, 42, 21, 6, 28, 182, 1, 235, 21, 4]
abbrev dktX8_partBy_1 : List UInt8 := dkwX8_partBy_1 ++ dktX8_partBy_2
def dkwX8_partBy_0 : List UInt8 := [3, 62, 3, 54, 4, 21, 4, 16, 10, 163, 0, 68, 3, 54, 5, 3, 54, 6, 21, 6, 42, 182, 0, 84]
abbrev dktX8_partBy_0 : List UInt8 := dkwX8_partBy_0 ++ dktX8_partBy_1
theorem dksX8_partBy_0 : cX8_partBy.data.toList.drop 0 = dktX8_partBy_0 := by decide +kernel
theorem dksX8_partBy_1 : cX8_partBy.data.toList.drop 24 = dktX8_partBy_1 := dk_seg dksX8_partBy_0 24 rfl rfl
theorem dksX8_partBy_2 : cX8_partBy.data.toList.drop 47 = dktX8_partBy_2 := dk_seg dksX8_partBy_1 23 rfl rfl
theorem dksX8_partBy_3 : cX8_partBy.data.toList.drop 71 = dktX8_partBy_3 := dk_seg dksX8_partBy_2 24 rfl rfl
theorem dX8_partBy_0 : decode cX8_partBy 0 = .ok (.iconst 0, 1) := dk_3 (dk_at dksX8_partBy_0 0 rfl rfl)
theorem dX8_partBy_1 : decode cX8_partBy 1 = .ok (.istore_n 3, 1) := dk_62 (dk_at dksX8_partBy_0 1 rfl rfl)
theorem dX8_partBy_2 : decode cX8_partBy 2 = .ok (.iconst 0, 1) := dk_3 (dk_at dksX8_partBy_0 2 rfl rfl)
theorem dX8_partBy_3 : decode cX8_partBy 3 = .ok (.istore 4, 2) := dk_54 4 (dk_at dksX8_partBy_0 3 rfl rfl)
theorem dX8_partBy_5 : decode cX8_partBy 5 = .ok (.iload 4, 2) := dk_21 4 (dk_at dksX8_partBy_0 5 rfl rfl)
theorem dX8_partBy_7 : decode cX8_partBy 7 = .ok (.bipush 10, 2) := dk_16 10 (dk_at dksX8_partBy_0 7 rfl rfl)
theorem dX8_partBy_9 : decode cX8_partBy 9 = .ok (.if_icmp .gt 68, 3) := dk_163 0 68 (dk_at dksX8_partBy_0 9 rfl rfl)
theorem dX8_partBy_12 : decode cX8_partBy 12 = .ok (.iconst 0, 1) := dk_3 (dk_at dksX8_partBy_0 12 rfl rfl)
theorem dX8_partBy_13 : decode cX8_partBy 13 = .ok (.istore 5, 2) := dk_54 5 (dk_at dksX8_partBy_0 13 rfl rfl)
theorem dX8_partBy_15 : decode cX8_partBy 15 = .ok (.iconst 0, 1) := dk_3 (dk_at dksX8_partBy_0 15 rfl rfl)
theorem dX8_partBy_16 : decode cX8_partBy 16 = .ok (.istore 6, 2) := dk_54 6 (dk_at dksX8_partBy_0 16 rfl rfl)
theorem dX8_partBy_18 : decode cX8_partBy 18 = .ok (.iload 6, 2) := dk_21 6 (dk_at dksX8_partBy_0 18 rfl rfl)
theorem dX8_partBy_20 : decode cX8_partBy 20 = .ok (.aload_n 0, 1) := dk_42 (dk_at dksX8_partBy_0 20 rfl rfl)
theorem dX8_partBy_21 : decode cX8_partBy 21 = .ok (.invokevirtual 84, 3) := dk_182 0 84 (dk_at dksX8_partBy_0 21 rfl rfl)
theorem dX8_partBy_24 : decode cX8_partBy 24 = .ok (.if_icmp .ge 40, 3) := dk_162 0 40 (dk_at dksX8_partBy_1 0 rfl rfl)
theorem dX8_partBy_27 : decode cX8_partBy 27 = .ok (.iload 5, 2) := dk_21 5 (dk_at dksX8_partBy_1 3 rfl rfl)
theorem dX8_partBy_29 : decode cX8_partBy 29 = .ok (.iload_n 1, 1) := dk_27 (dk_at dksX8_partBy_1 5 rfl rfl)
theorem dX8_partBy_30 : decode cX8_partBy 30 = .ok (.iload 6, 2) := dk_21 6 (dk_at dksX8_partBy_1 6 rfl rfl)
theorem dX8_partBy_32 : decode cX8_partBy 32 = .ok (.invokestatic 485, 3) := dk_184 1 229 (dk_at dksX8_partBy_1 8 rfl rfl)
theorem dX8_partBy_35 : decode cX8_partBy 35 = .ok (.ifCond .eq 19, 3) := dk_153 0 19 (dk_at dksX8_partBy_1 11 rfl rfl)
theorem dX8_partBy_38 : decode cX8_partBy 38 = .ok (.aload_n 0, 1) := dk_42 (dk_at dksX8_partBy_1 14 rfl rfl)
theorem dX8_partBy_39 : decode cX8_partBy 39 = .ok (.iload 6, 2) := dk_21 6 (dk_at dksX8_partBy_1 15 rfl rfl)
theorem dX8_partBy_41 : decode cX8_partBy 41 = .ok (.iload_n 2, 1) := dk_28 (dk_at dksX8_partBy_1 17 rfl rfl)
theorem dX8_partBy_42 : decode cX8_partBy 42 = .ok (.invokevirtual 491, 3) := dk_182 1 235 (dk_at dksX8_partBy_1 18 rfl rfl)
theorem dX8_partBy_45 : decode cX8_partBy 45 = .ok (.iload 4, 2) := dk_21 4 (dk_at dksX8_partBy_1 21 rfl rfl)
theorem dX8_partBy_47 : decode cX8_partBy 47 = .ok (.if_icmp .ne 7, 3) := dk_160 0 7 (dk_at dksX8_partBy_2 0 rfl rfl)
theorem dX8_partBy_50 : decode cX8_partBy 50 = .ok (.iconst 1, 1) := dk_4 (dk_at dksX8_partBy_2 3 rfl rfl)
theorem dX8_partBy_51 : decode cX8_partBy 51 = .ok (.goto 4, 3) := dk_167 0 4 (dk_at dksX8_partBy_2 4 rfl rfl)
theorem dX8_partBy_54 : decode cX8_partBy 54 = .ok (.iconst 0, 1) := dk_3 (dk_at dksX8_partBy_2 7 rfl rfl)
theorem dX8_partBy_55 : decode cX8_partBy 55 = .ok (.iadd, 1) := dk_96 (dk_at dksX8_partBy_2 8 rfl rfl)
theorem dX8_partBy_56 : decode cX8_partBy 56 = .ok (.istore 5, 2) := dk_54 5 (dk_at dksX8_partBy_2 9 rfl rfl)
theorem dX8_partBy_58 : decode cX8_partBy 58 = .ok (.iinc 6 1, 3) := dk_132 6 1 (dk_at dksX8_partBy_2 11 rfl rfl)
theorem dX8_partBy_61 : decode cX8_partBy 61 = .ok (.goto (-43), 3) := dk_167 255 213 (dk_at dksX8_partBy_2 14 rfl rfl)
theorem dX8_partBy_64 : decode cX8_partBy 64 = .ok (.iload_n 3, 1) := dk_29 (dk_at dksX8_partBy_2 17 rfl rfl)
theorem dX8_partBy_65 : decode cX8_partBy 65 = .ok (.iload 5, 2) := dk_21 5 (dk_at dksX8_partBy_2 18 rfl rfl)
theorem dX8_partBy_67 : decode cX8_partBy 67 = .ok (.invokestatic 509, 3) := dk_184 1 253 (dk_at dksX8_partBy_2 20 rfl rfl)
theorem dX8_partBy_70 : decode cX8_partBy 70 = .ok (.istore_n 3, 1) := dk_62 (dk_at dksX8_partBy_2 23 rfl rfl)
theorem dX8_partBy_71 : decode cX8_partBy 71 = .ok (.iinc 4 1, 3) := dk_132 4 1 (dk_at dksX8_partBy_3 0 rfl rfl)
theorem dX8_partBy_74 : decode cX8_partBy 74 = .ok (.goto (-69), 3) := dk_167 255 187 (dk_at dksX8_partBy_3 3 rfl rfl)
theorem dX8_partBy_77 : decode cX8_partBy 77 = .ok (.iload_n 3, 1) := dk_29 (dk_at dksX8_partBy_3 6 rfl rfl)
theorem dX8_partBy_78 : decode cX8_partBy 78 = .ok (.ireturn, 1) := dk_172 (dk_at dksX8_partBy_3 7 rfl rfl)
abbrev cX8_lead : ByteArray := prog_19_method_141_code
def yX8_lead : MethodName := ⟨RX8, "lead", "()I"⟩
def dkwX8_lead_0 : List UInt8 := [42, 3, 181, 0, 3, 42, 182, 2, 13, 42, 180, 0, 55, 3, 16, 8, 184, 2, 4, 46, 172]
abbrev dktX8_lead_0 : List UInt8 := dkwX8_lead_0 ++ []
theorem dksX8_lead_0 : cX8_lead.data.toList.drop 0 = dktX8_lead_0 := by decide +kernel
theorem dX8_lead_0 : decode cX8_lead 0 = .ok (.aload_n 0, 1) := dk_42 (dk_at dksX8_lead_0 0 rfl rfl)
theorem dX8_lead_1 : decode cX8_lead 1 = .ok (.iconst 0, 1) := dk_3 (dk_at dksX8_lead_0 1 rfl rfl)
theorem dX8_lead_2 : decode cX8_lead 2 = .ok (.putfield 3, 3) := dk_181 0 3 (dk_at dksX8_lead_0 2 rfl rfl)
theorem dX8_lead_5 : decode cX8_lead 5 = .ok (.aload_n 0, 1) := dk_42 (dk_at dksX8_lead_0 5 rfl rfl)
theorem dX8_lead_6 : decode cX8_lead 6 = .ok (.invokevirtual 525, 3) := dk_182 2 13 (dk_at dksX8_lead_0 6 rfl rfl)
theorem dX8_lead_9 : decode cX8_lead 9 = .ok (.aload_n 0, 1) := dk_42 (dk_at dksX8_lead_0 9 rfl rfl)
theorem dX8_lead_10 : decode cX8_lead 10 = .ok (.getfield 55, 3) := dk_180 0 55 (dk_at dksX8_lead_0 10 rfl rfl)
theorem dX8_lead_13 : decode cX8_lead 13 = .ok (.iconst 0, 1) := dk_3 (dk_at dksX8_lead_0 13 rfl rfl)
theorem dX8_lead_14 : decode cX8_lead 14 = .ok (.bipush 8, 2) := dk_16 8 (dk_at dksX8_lead_0 14 rfl rfl)
theorem dX8_lead_16 : decode cX8_lead 16 = .ok (.invokestatic 516, 3) := dk_184 2 4 (dk_at dksX8_lead_0 16 rfl rfl)
theorem dX8_lead_19 : decode cX8_lead 19 = .ok (.iaload, 1) := dk_46 (dk_at dksX8_lead_0 19 rfl rfl)
theorem dX8_lead_20 : decode cX8_lead 20 = .ok (.ireturn, 1) := dk_172 (dk_at dksX8_lead_0 20 rfl rfl)
abbrev cX8_laysMore : ByteArray := prog_19_method_140_code
def yX8_laysMore : MethodName := ⟨RX8, "laysMore", "()V"⟩
def dkwX8_laysMore_2 : List UInt8 := [182, 2, 10, 184, 1, 253, 79, 132, 2, 1, 167, 255, 222, 132, 1, 255, 167, 255, 197, 177]
abbrev dktX8_laysMore_2 : List UInt8 := dkwX8_laysMore_2 ++ []
def dkwX8_laysMore_1 : List UInt8 := [16, 8, 163, 0, 34, 42, 180, 0, 55, 27, 28, 184, 2, 4, 42, 27, 28, 182, 2, 7, 42, 27, 28]
abbrev dktX8_laysMore_1 : List UInt8 := dkwX8_laysMore_1 ++ dktX8_laysMore_2
def dkwX8_laysMore_0 : List UInt8 := [16, 8, 60, 27, 155, 0, 61, 42, 180, 0, 55, 27, 27, 184, 2, 4, 3, 79, 27, 4, 96, 61, 28]
abbrev dktX8_laysMore_0 : List UInt8 := dkwX8_laysMore_0 ++ dktX8_laysMore_1
theorem dksX8_laysMore_0 : cX8_laysMore.data.toList.drop 0 = dktX8_laysMore_0 := by decide +kernel
theorem dksX8_laysMore_1 : cX8_laysMore.data.toList.drop 23 = dktX8_laysMore_1 := dk_seg dksX8_laysMore_0 23 rfl rfl
theorem dksX8_laysMore_2 : cX8_laysMore.data.toList.drop 46 = dktX8_laysMore_2 := dk_seg dksX8_laysMore_1 23 rfl rfl
theorem dX8_laysMore_0 : decode cX8_laysMore 0 = .ok (.bipush 8, 2) := dk_16 8 (dk_at dksX8_laysMore_0 0 rfl rfl)
theorem dX8_laysMore_2 : decode cX8_laysMore 2 = .ok (.istore_n 1, 1) := dk_60 (dk_at dksX8_laysMore_0 2 rfl rfl)
theorem dX8_laysMore_3 : decode cX8_laysMore 3 = .ok (.iload_n 1, 1) := dk_27 (dk_at dksX8_laysMore_0 3 rfl rfl)
theorem dX8_laysMore_4 : decode cX8_laysMore 4 = .ok (.ifCond .lt 61, 3) := dk_155 0 61 (dk_at dksX8_laysMore_0 4 rfl rfl)
theorem dX8_laysMore_7 : decode cX8_laysMore 7 = .ok (.aload_n 0, 1) := dk_42 (dk_at dksX8_laysMore_0 7 rfl rfl)
theorem dX8_laysMore_8 : decode cX8_laysMore 8 = .ok (.getfield 55, 3) := dk_180 0 55 (dk_at dksX8_laysMore_0 8 rfl rfl)
theorem dX8_laysMore_11 : decode cX8_laysMore 11 = .ok (.iload_n 1, 1) := dk_27 (dk_at dksX8_laysMore_0 11 rfl rfl)
theorem dX8_laysMore_12 : decode cX8_laysMore 12 = .ok (.iload_n 1, 1) := dk_27 (dk_at dksX8_laysMore_0 12 rfl rfl)
theorem dX8_laysMore_13 : decode cX8_laysMore 13 = .ok (.invokestatic 516, 3) := dk_184 2 4 (dk_at dksX8_laysMore_0 13 rfl rfl)
theorem dX8_laysMore_16 : decode cX8_laysMore 16 = .ok (.iconst 0, 1) := dk_3 (dk_at dksX8_laysMore_0 16 rfl rfl)
theorem dX8_laysMore_17 : decode cX8_laysMore 17 = .ok (.iastore, 1) := dk_79 (dk_at dksX8_laysMore_0 17 rfl rfl)
theorem dX8_laysMore_18 : decode cX8_laysMore 18 = .ok (.iload_n 1, 1) := dk_27 (dk_at dksX8_laysMore_0 18 rfl rfl)
theorem dX8_laysMore_19 : decode cX8_laysMore 19 = .ok (.iconst 1, 1) := dk_4 (dk_at dksX8_laysMore_0 19 rfl rfl)
theorem dX8_laysMore_20 : decode cX8_laysMore 20 = .ok (.iadd, 1) := dk_96 (dk_at dksX8_laysMore_0 20 rfl rfl)
theorem dX8_laysMore_21 : decode cX8_laysMore 21 = .ok (.istore_n 2, 1) := dk_61 (dk_at dksX8_laysMore_0 21 rfl rfl)
theorem dX8_laysMore_22 : decode cX8_laysMore 22 = .ok (.iload_n 2, 1) := dk_28 (dk_at dksX8_laysMore_0 22 rfl rfl)
theorem dX8_laysMore_23 : decode cX8_laysMore 23 = .ok (.bipush 8, 2) := dk_16 8 (dk_at dksX8_laysMore_1 0 rfl rfl)
theorem dX8_laysMore_25 : decode cX8_laysMore 25 = .ok (.if_icmp .gt 34, 3) := dk_163 0 34 (dk_at dksX8_laysMore_1 2 rfl rfl)
theorem dX8_laysMore_28 : decode cX8_laysMore 28 = .ok (.aload_n 0, 1) := dk_42 (dk_at dksX8_laysMore_1 5 rfl rfl)
theorem dX8_laysMore_29 : decode cX8_laysMore 29 = .ok (.getfield 55, 3) := dk_180 0 55 (dk_at dksX8_laysMore_1 6 rfl rfl)
theorem dX8_laysMore_32 : decode cX8_laysMore 32 = .ok (.iload_n 1, 1) := dk_27 (dk_at dksX8_laysMore_1 9 rfl rfl)
theorem dX8_laysMore_33 : decode cX8_laysMore 33 = .ok (.iload_n 2, 1) := dk_28 (dk_at dksX8_laysMore_1 10 rfl rfl)
theorem dX8_laysMore_34 : decode cX8_laysMore 34 = .ok (.invokestatic 516, 3) := dk_184 2 4 (dk_at dksX8_laysMore_1 11 rfl rfl)
theorem dX8_laysMore_37 : decode cX8_laysMore 37 = .ok (.aload_n 0, 1) := dk_42 (dk_at dksX8_laysMore_1 14 rfl rfl)
theorem dX8_laysMore_38 : decode cX8_laysMore 38 = .ok (.iload_n 1, 1) := dk_27 (dk_at dksX8_laysMore_1 15 rfl rfl)
theorem dX8_laysMore_39 : decode cX8_laysMore 39 = .ok (.iload_n 2, 1) := dk_28 (dk_at dksX8_laysMore_1 16 rfl rfl)
theorem dX8_laysMore_40 : decode cX8_laysMore 40 = .ok (.invokevirtual 519, 3) := dk_182 2 7 (dk_at dksX8_laysMore_1 17 rfl rfl)
theorem dX8_laysMore_43 : decode cX8_laysMore 43 = .ok (.aload_n 0, 1) := dk_42 (dk_at dksX8_laysMore_1 20 rfl rfl)
theorem dX8_laysMore_44 : decode cX8_laysMore 44 = .ok (.iload_n 1, 1) := dk_27 (dk_at dksX8_laysMore_1 21 rfl rfl)
theorem dX8_laysMore_45 : decode cX8_laysMore 45 = .ok (.iload_n 2, 1) := dk_28 (dk_at dksX8_laysMore_1 22 rfl rfl)
theorem dX8_laysMore_46 : decode cX8_laysMore 46 = .ok (.invokevirtual 522, 3) := dk_182 2 10 (dk_at dksX8_laysMore_2 0 rfl rfl)
theorem dX8_laysMore_49 : decode cX8_laysMore 49 = .ok (.invokestatic 509, 3) := dk_184 1 253 (dk_at dksX8_laysMore_2 3 rfl rfl)
theorem dX8_laysMore_52 : decode cX8_laysMore 52 = .ok (.iastore, 1) := dk_79 (dk_at dksX8_laysMore_2 6 rfl rfl)
theorem dX8_laysMore_53 : decode cX8_laysMore 53 = .ok (.iinc 2 1, 3) := dk_132 2 1 (dk_at dksX8_laysMore_2 7 rfl rfl)
theorem dX8_laysMore_56 : decode cX8_laysMore 56 = .ok (.goto (-34), 3) := dk_167 255 222 (dk_at dksX8_laysMore_2 10 rfl rfl)
theorem dX8_laysMore_59 : decode cX8_laysMore 59 = .ok (.iinc 1 (-1), 3) := dk_132 1 255 (dk_at dksX8_laysMore_2 13 rfl rfl)
theorem dX8_laysMore_62 : decode cX8_laysMore 62 = .ok (.goto (-59), 3) := dk_167 255 197 (dk_at dksX8_laysMore_2 16 rfl rfl)
theorem dX8_laysMore_65 : decode cX8_laysMore 65 = .ok (.return_, 1) := dk_177 (dk_at dksX8_laysMore_2 19 rfl rfl)
abbrev cX8_moreAt : ByteArray := prog_19_method_137_code
def yX8_moreAt : MethodName := ⟨RX8, "moreAt", "(II)I"⟩
def dkwX8_moreAt_0 : List UInt8 := [16, 9, 26, 104, 27, 96, 172]
abbrev dktX8_moreAt_0 : List UInt8 := dkwX8_moreAt_0 ++ []
theorem dksX8_moreAt_0 : cX8_moreAt.data.toList.drop 0 = dktX8_moreAt_0 := by decide +kernel
theorem dX8_moreAt_0 : decode cX8_moreAt 0 = .ok (.bipush 9, 2) := dk_16 9 (dk_at dksX8_moreAt_0 0 rfl rfl)
theorem dX8_moreAt_2 : decode cX8_moreAt 2 = .ok (.iload_n 0, 1) := dk_26 (dk_at dksX8_moreAt_0 2 rfl rfl)
theorem dX8_moreAt_3 : decode cX8_moreAt 3 = .ok (.imul, 1) := dk_104 (dk_at dksX8_moreAt_0 3 rfl rfl)
theorem dX8_moreAt_4 : decode cX8_moreAt 4 = .ok (.iload_n 1, 1) := dk_27 (dk_at dksX8_moreAt_0 4 rfl rfl)
theorem dX8_moreAt_5 : decode cX8_moreAt 5 = .ok (.iadd, 1) := dk_96 (dk_at dksX8_moreAt_0 5 rfl rfl)
theorem dX8_moreAt_6 : decode cX8_moreAt 6 = .ok (.ireturn, 1) := dk_172 (dk_at dksX8_moreAt_0 6 rfl rfl)
abbrev cX8_leftFirst : ByteArray := prog_19_method_138_code
def yX8_leftFirst : MethodName := ⟨RX8, "leftFirst", "(II)I"⟩
def dkwX8_leftFirst_0 : List UInt8 := [42, 180, 0, 13, 16, 22, 27, 96, 46, 42, 180, 0, 55, 27, 4, 96, 28, 184, 2, 4, 46, 100, 172]
abbrev dktX8_leftFirst_0 : List UInt8 := dkwX8_leftFirst_0 ++ []
theorem dksX8_leftFirst_0 : cX8_leftFirst.data.toList.drop 0 = dktX8_leftFirst_0 := by decide +kernel
theorem dX8_leftFirst_0 : decode cX8_leftFirst 0 = .ok (.aload_n 0, 1) := dk_42 (dk_at dksX8_leftFirst_0 0 rfl rfl)
theorem dX8_leftFirst_1 : decode cX8_leftFirst 1 = .ok (.getfield 13, 3) := dk_180 0 13 (dk_at dksX8_leftFirst_0 1 rfl rfl)
theorem dX8_leftFirst_4 : decode cX8_leftFirst 4 = .ok (.bipush 22, 2) := dk_16 22 (dk_at dksX8_leftFirst_0 4 rfl rfl)
theorem dX8_leftFirst_6 : decode cX8_leftFirst 6 = .ok (.iload_n 1, 1) := dk_27 (dk_at dksX8_leftFirst_0 6 rfl rfl)
theorem dX8_leftFirst_7 : decode cX8_leftFirst 7 = .ok (.iadd, 1) := dk_96 (dk_at dksX8_leftFirst_0 7 rfl rfl)
theorem dX8_leftFirst_8 : decode cX8_leftFirst 8 = .ok (.iaload, 1) := dk_46 (dk_at dksX8_leftFirst_0 8 rfl rfl)
theorem dX8_leftFirst_9 : decode cX8_leftFirst 9 = .ok (.aload_n 0, 1) := dk_42 (dk_at dksX8_leftFirst_0 9 rfl rfl)
theorem dX8_leftFirst_10 : decode cX8_leftFirst 10 = .ok (.getfield 55, 3) := dk_180 0 55 (dk_at dksX8_leftFirst_0 10 rfl rfl)
theorem dX8_leftFirst_13 : decode cX8_leftFirst 13 = .ok (.iload_n 1, 1) := dk_27 (dk_at dksX8_leftFirst_0 13 rfl rfl)
theorem dX8_leftFirst_14 : decode cX8_leftFirst 14 = .ok (.iconst 1, 1) := dk_4 (dk_at dksX8_leftFirst_0 14 rfl rfl)
theorem dX8_leftFirst_15 : decode cX8_leftFirst 15 = .ok (.iadd, 1) := dk_96 (dk_at dksX8_leftFirst_0 15 rfl rfl)
theorem dX8_leftFirst_16 : decode cX8_leftFirst 16 = .ok (.iload_n 2, 1) := dk_28 (dk_at dksX8_leftFirst_0 16 rfl rfl)
theorem dX8_leftFirst_17 : decode cX8_leftFirst 17 = .ok (.invokestatic 516, 3) := dk_184 2 4 (dk_at dksX8_leftFirst_0 17 rfl rfl)
theorem dX8_leftFirst_20 : decode cX8_leftFirst 20 = .ok (.iaload, 1) := dk_46 (dk_at dksX8_leftFirst_0 20 rfl rfl)
theorem dX8_leftFirst_21 : decode cX8_leftFirst 21 = .ok (.isub, 1) := dk_100 (dk_at dksX8_leftFirst_0 21 rfl rfl)
theorem dX8_leftFirst_22 : decode cX8_leftFirst 22 = .ok (.ireturn, 1) := dk_172 (dk_at dksX8_leftFirst_0 22 rfl rfl)
abbrev cX8_rightFirst : ByteArray := prog_19_method_139_code
def yX8_rightFirst : MethodName := ⟨RX8, "rightFirst", "(II)I"⟩
def dkwX8_rightFirst_1 : List UInt8 := [172]
abbrev dktX8_rightFirst_1 : List UInt8 := dkwX8_rightFirst_1 ++ []
def dkwX8_rightFirst_0 : List UInt8 := [42, 180, 0, 13, 16, 22, 28, 96, 4, 100, 46, 42, 180, 0, 55, 27, 28, 4, 100, 184, 2, 4, 46, 100]
abbrev dktX8_rightFirst_0 : List UInt8 := dkwX8_rightFirst_0 ++ dktX8_rightFirst_1
theorem dksX8_rightFirst_0 : cX8_rightFirst.data.toList.drop 0 = dktX8_rightFirst_0 := by decide +kernel
theorem dksX8_rightFirst_1 : cX8_rightFirst.data.toList.drop 24 = dktX8_rightFirst_1 := dk_seg dksX8_rightFirst_0 24 rfl rfl
theorem dX8_rightFirst_0 : decode cX8_rightFirst 0 = .ok (.aload_n 0, 1) := dk_42 (dk_at dksX8_rightFirst_0 0 rfl rfl)
theorem dX8_rightFirst_1 : decode cX8_rightFirst 1 = .ok (.getfield 13, 3) := dk_180 0 13 (dk_at dksX8_rightFirst_0 1 rfl rfl)
theorem dX8_rightFirst_4 : decode cX8_rightFirst 4 = .ok (.bipush 22, 2) := dk_16 22 (dk_at dksX8_rightFirst_0 4 rfl rfl)
theorem dX8_rightFirst_6 : decode cX8_rightFirst 6 = .ok (.iload_n 2, 1) := dk_28 (dk_at dksX8_rightFirst_0 6 rfl rfl)
theorem dX8_rightFirst_7 : decode cX8_rightFirst 7 = .ok (.iadd, 1) := dk_96 (dk_at dksX8_rightFirst_0 7 rfl rfl)
theorem dX8_rightFirst_8 : decode cX8_rightFirst 8 = .ok (.iconst 1, 1) := dk_4 (dk_at dksX8_rightFirst_0 8 rfl rfl)
theorem dX8_rightFirst_9 : decode cX8_rightFirst 9 = .ok (.isub, 1) := dk_100 (dk_at dksX8_rightFirst_0 9 rfl rfl)
theorem dX8_rightFirst_10 : decode cX8_rightFirst 10 = .ok (.iaload, 1) := dk_46 (dk_at dksX8_rightFirst_0 10 rfl rfl)
theorem dX8_rightFirst_11 : decode cX8_rightFirst 11 = .ok (.aload_n 0, 1) := dk_42 (dk_at dksX8_rightFirst_0 11 rfl rfl)
theorem dX8_rightFirst_12 : decode cX8_rightFirst 12 = .ok (.getfield 55, 3) := dk_180 0 55 (dk_at dksX8_rightFirst_0 12 rfl rfl)
theorem dX8_rightFirst_15 : decode cX8_rightFirst 15 = .ok (.iload_n 1, 1) := dk_27 (dk_at dksX8_rightFirst_0 15 rfl rfl)
theorem dX8_rightFirst_16 : decode cX8_rightFirst 16 = .ok (.iload_n 2, 1) := dk_28 (dk_at dksX8_rightFirst_0 16 rfl rfl)
theorem dX8_rightFirst_17 : decode cX8_rightFirst 17 = .ok (.iconst 1, 1) := dk_4 (dk_at dksX8_rightFirst_0 17 rfl rfl)
theorem dX8_rightFirst_18 : decode cX8_rightFirst 18 = .ok (.isub, 1) := dk_100 (dk_at dksX8_rightFirst_0 18 rfl rfl)
theorem dX8_rightFirst_19 : decode cX8_rightFirst 19 = .ok (.invokestatic 516, 3) := dk_184 2 4 (dk_at dksX8_rightFirst_0 19 rfl rfl)
theorem dX8_rightFirst_22 : decode cX8_rightFirst 22 = .ok (.iaload, 1) := dk_46 (dk_at dksX8_rightFirst_0 22 rfl rfl)
theorem dX8_rightFirst_23 : decode cX8_rightFirst 23 = .ok (.isub, 1) := dk_100 (dk_at dksX8_rightFirst_0 23 rfl rfl)
theorem dX8_rightFirst_24 : decode cX8_rightFirst 24 = .ok (.ireturn, 1) := dk_172 (dk_at dksX8_rightFirst_1 0 rfl rfl)
abbrev cX8_side : ByteArray := prog_19_method_142_code
def yX8_side : MethodName := ⟨RX8, "side", "()I"⟩
def dkwX8_side_1 : List UInt8 := [161, 0, 7, 3, 167, 0, 4, 4, 172]
abbrev dktX8_side_1 : List UInt8 := dkwX8_side_1 ++ []
def dkwX8_side_0 : List UInt8 := [42, 3, 181, 0, 3, 42, 182, 2, 13, 42, 3, 16, 8, 182, 2, 7, 42, 3, 16, 8, 182, 2, 10]
abbrev dktX8_side_0 : List UInt8 := dkwX8_side_0 ++ dktX8_side_1
theorem dksX8_side_0 : cX8_side.data.toList.drop 0 = dktX8_side_0 := by decide +kernel
theorem dksX8_side_1 : cX8_side.data.toList.drop 23 = dktX8_side_1 := dk_seg dksX8_side_0 23 rfl rfl
theorem dX8_side_0 : decode cX8_side 0 = .ok (.aload_n 0, 1) := dk_42 (dk_at dksX8_side_0 0 rfl rfl)
theorem dX8_side_1 : decode cX8_side 1 = .ok (.iconst 0, 1) := dk_3 (dk_at dksX8_side_0 1 rfl rfl)
theorem dX8_side_2 : decode cX8_side 2 = .ok (.putfield 3, 3) := dk_181 0 3 (dk_at dksX8_side_0 2 rfl rfl)
theorem dX8_side_5 : decode cX8_side 5 = .ok (.aload_n 0, 1) := dk_42 (dk_at dksX8_side_0 5 rfl rfl)
theorem dX8_side_6 : decode cX8_side 6 = .ok (.invokevirtual 525, 3) := dk_182 2 13 (dk_at dksX8_side_0 6 rfl rfl)
theorem dX8_side_9 : decode cX8_side 9 = .ok (.aload_n 0, 1) := dk_42 (dk_at dksX8_side_0 9 rfl rfl)
theorem dX8_side_10 : decode cX8_side 10 = .ok (.iconst 0, 1) := dk_3 (dk_at dksX8_side_0 10 rfl rfl)
theorem dX8_side_11 : decode cX8_side 11 = .ok (.bipush 8, 2) := dk_16 8 (dk_at dksX8_side_0 11 rfl rfl)
theorem dX8_side_13 : decode cX8_side 13 = .ok (.invokevirtual 519, 3) := dk_182 2 7 (dk_at dksX8_side_0 13 rfl rfl)
theorem dX8_side_16 : decode cX8_side 16 = .ok (.aload_n 0, 1) := dk_42 (dk_at dksX8_side_0 16 rfl rfl)
theorem dX8_side_17 : decode cX8_side 17 = .ok (.iconst 0, 1) := dk_3 (dk_at dksX8_side_0 17 rfl rfl)
theorem dX8_side_18 : decode cX8_side 18 = .ok (.bipush 8, 2) := dk_16 8 (dk_at dksX8_side_0 18 rfl rfl)
theorem dX8_side_20 : decode cX8_side 20 = .ok (.invokevirtual 522, 3) := dk_182 2 10 (dk_at dksX8_side_0 20 rfl rfl)
theorem dX8_side_23 : decode cX8_side 23 = .ok (.if_icmp .lt 7, 3) := dk_161 0 7 (dk_at dksX8_side_1 0 rfl rfl)
theorem dX8_side_26 : decode cX8_side 26 = .ok (.iconst 0, 1) := dk_3 (dk_at dksX8_side_1 3 rfl rfl)
theorem dX8_side_27 : decode cX8_side 27 = .ok (.goto 4, 3) := dk_167 0 4 (dk_at dksX8_side_1 4 rfl rfl)
theorem dX8_side_30 : decode cX8_side 30 = .ok (.iconst 1, 1) := dk_4 (dk_at dksX8_side_1 7 rfl rfl)
theorem dX8_side_31 : decode cX8_side 31 = .ok (.ireturn, 1) := dk_172 (dk_at dksX8_side_1 8 rfl rfl)
abbrev cX8_pairs : ByteArray := prog_19_method_145_code
def yX8_pairs : MethodName := ⟨RX8, "pairs", "(I)I"⟩
def dkwX8_pairs_6 : List UInt8 := [160, 0, 7, 28, 167, 0, 11, 28, 4, 21, 6, 120, 2, 130, 126, 61, 167, 255, 159, 29, 172]
abbrev dktX8_pairs_6 : List UInt8 := dkwX8_pairs_6 ++ []
def dkwX8_pairs_5 : List UInt8 := [27, 160, 0, 8, 21, 6, 167, 0, 5, 21, 5, 62, 28, 4, 21, 5, 120, 2, 130, 126, 61, 21, 6, 2]
abbrev dktX8_pairs_5 : List UInt8 := dkwX8_pairs_5 ++ dktX8_pairs_6
def dkwX8_pairs_4 : List UInt8 := [167, 255, 237, 21, 5, 27, 159, 0, 9, 21, 6, 27, 160, 0, 7, 4, 167, 0, 4, 3, 54, 4, 21, 5]
abbrev dktX8_pairs_4 : List UInt8 := dkwX8_pairs_4 ++ dktX8_pairs_5
def dkwX8_pairs_3 : List UInt8 := [54, 5, 2, 54, 6, 42, 28, 21, 6, 182, 2, 16, 42, 180, 0, 58, 28, 46, 159, 0, 9, 132, 6, 1]
abbrev dktX8_pairs_3 : List UInt8 := dkwX8_pairs_3 ++ dktX8_pairs_4
def dkwX8_pairs_2 : List UInt8 := [160, 0, 10, 42, 180, 0, 58, 28, 46, 172, 2, 62, 3, 54, 4, 21, 4, 154, 0, 98, 28, 184, 1, 250]
abbrev dktX8_pairs_2 : List UInt8 := dkwX8_pairs_2 ++ dktX8_pairs_3
def dkwX8_pairs_1 : List UInt8 := [4, 182, 1, 24, 153, 0, 5, 3, 172, 42, 182, 2, 19, 4, 42, 182, 0, 84, 120, 4, 100, 61, 27, 2]
abbrev dktX8_pairs_1 : List UInt8 := dkwX8_pairs_1 ++ dktX8_pairs_2
def dkwX8_pairs_0 : List UInt8 := [42, 3, 181, 0, 3, 42, 27, 2, 159, 0, 15, 42, 27, 182, 1, 177, 153, 0, 7, 4, 167, 0, 4, 3]
abbrev dktX8_pairs_0 : List UInt8 := dkwX8_pairs_0 ++ dktX8_pairs_1
theorem dksX8_pairs_0 : cX8_pairs.data.toList.drop 0 = dktX8_pairs_0 := by decide +kernel
theorem dksX8_pairs_1 : cX8_pairs.data.toList.drop 24 = dktX8_pairs_1 := dk_seg dksX8_pairs_0 24 rfl rfl
theorem dksX8_pairs_2 : cX8_pairs.data.toList.drop 48 = dktX8_pairs_2 := dk_seg dksX8_pairs_1 24 rfl rfl
theorem dksX8_pairs_3 : cX8_pairs.data.toList.drop 72 = dktX8_pairs_3 := dk_seg dksX8_pairs_2 24 rfl rfl
theorem dksX8_pairs_4 : cX8_pairs.data.toList.drop 96 = dktX8_pairs_4 := dk_seg dksX8_pairs_3 24 rfl rfl
theorem dksX8_pairs_5 : cX8_pairs.data.toList.drop 120 = dktX8_pairs_5 := dk_seg dksX8_pairs_4 24 rfl rfl
theorem dksX8_pairs_6 : cX8_pairs.data.toList.drop 144 = dktX8_pairs_6 := dk_seg dksX8_pairs_5 24 rfl rfl
theorem dX8_pairs_0 : decode cX8_pairs 0 = .ok (.aload_n 0, 1) := dk_42 (dk_at dksX8_pairs_0 0 rfl rfl)
theorem dX8_pairs_1 : decode cX8_pairs 1 = .ok (.iconst 0, 1) := dk_3 (dk_at dksX8_pairs_0 1 rfl rfl)
theorem dX8_pairs_2 : decode cX8_pairs 2 = .ok (.putfield 3, 3) := dk_181 0 3 (dk_at dksX8_pairs_0 2 rfl rfl)
theorem dX8_pairs_5 : decode cX8_pairs 5 = .ok (.aload_n 0, 1) := dk_42 (dk_at dksX8_pairs_0 5 rfl rfl)
theorem dX8_pairs_6 : decode cX8_pairs 6 = .ok (.iload_n 1, 1) := dk_27 (dk_at dksX8_pairs_0 6 rfl rfl)
theorem dX8_pairs_7 : decode cX8_pairs 7 = .ok (.iconst (-1), 1) := dk_2 (dk_at dksX8_pairs_0 7 rfl rfl)
theorem dX8_pairs_8 : decode cX8_pairs 8 = .ok (.if_icmp .eq 15, 3) := dk_159 0 15 (dk_at dksX8_pairs_0 8 rfl rfl)
theorem dX8_pairs_11 : decode cX8_pairs 11 = .ok (.aload_n 0, 1) := dk_42 (dk_at dksX8_pairs_0 11 rfl rfl)
theorem dX8_pairs_12 : decode cX8_pairs 12 = .ok (.iload_n 1, 1) := dk_27 (dk_at dksX8_pairs_0 12 rfl rfl)
theorem dX8_pairs_13 : decode cX8_pairs 13 = .ok (.invokevirtual 433, 3) := dk_182 1 177 (dk_at dksX8_pairs_0 13 rfl rfl)
theorem dX8_pairs_16 : decode cX8_pairs 16 = .ok (.ifCond .eq 7, 3) := dk_153 0 7 (dk_at dksX8_pairs_0 16 rfl rfl)
theorem dX8_pairs_19 : decode cX8_pairs 19 = .ok (.iconst 1, 1) := dk_4 (dk_at dksX8_pairs_0 19 rfl rfl)
theorem dX8_pairs_20 : decode cX8_pairs 20 = .ok (.goto 4, 3) := dk_167 0 4 (dk_at dksX8_pairs_0 20 rfl rfl)
theorem dX8_pairs_23 : decode cX8_pairs 23 = .ok (.iconst 0, 1) := dk_3 (dk_at dksX8_pairs_0 23 rfl rfl)
theorem dX8_pairs_24 : decode cX8_pairs 24 = .ok (.iconst 1, 1) := dk_4 (dk_at dksX8_pairs_1 0 rfl rfl)
theorem dX8_pairs_25 : decode cX8_pairs 25 = .ok (.invokevirtual 280, 3) := dk_182 1 24 (dk_at dksX8_pairs_1 1 rfl rfl)
theorem dX8_pairs_28 : decode cX8_pairs 28 = .ok (.ifCond .eq 5, 3) := dk_153 0 5 (dk_at dksX8_pairs_1 4 rfl rfl)
theorem dX8_pairs_31 : decode cX8_pairs 31 = .ok (.iconst 0, 1) := dk_3 (dk_at dksX8_pairs_1 7 rfl rfl)
theorem dX8_pairs_32 : decode cX8_pairs 32 = .ok (.ireturn, 1) := dk_172 (dk_at dksX8_pairs_1 8 rfl rfl)
theorem dX8_pairs_33 : decode cX8_pairs 33 = .ok (.aload_n 0, 1) := dk_42 (dk_at dksX8_pairs_1 9 rfl rfl)
theorem dX8_pairs_34 : decode cX8_pairs 34 = .ok (.invokevirtual 531, 3) := dk_182 2 19 (dk_at dksX8_pairs_1 10 rfl rfl)
theorem dX8_pairs_37 : decode cX8_pairs 37 = .ok (.iconst 1, 1) := dk_4 (dk_at dksX8_pairs_1 13 rfl rfl)
theorem dX8_pairs_38 : decode cX8_pairs 38 = .ok (.aload_n 0, 1) := dk_42 (dk_at dksX8_pairs_1 14 rfl rfl)
theorem dX8_pairs_39 : decode cX8_pairs 39 = .ok (.invokevirtual 84, 3) := dk_182 0 84 (dk_at dksX8_pairs_1 15 rfl rfl)
theorem dX8_pairs_42 : decode cX8_pairs 42 = .ok (.ishl, 1) := dk_120 (dk_at dksX8_pairs_1 18 rfl rfl)
theorem dX8_pairs_43 : decode cX8_pairs 43 = .ok (.iconst 1, 1) := dk_4 (dk_at dksX8_pairs_1 19 rfl rfl)
theorem dX8_pairs_44 : decode cX8_pairs 44 = .ok (.isub, 1) := dk_100 (dk_at dksX8_pairs_1 20 rfl rfl)
theorem dX8_pairs_45 : decode cX8_pairs 45 = .ok (.istore_n 2, 1) := dk_61 (dk_at dksX8_pairs_1 21 rfl rfl)
theorem dX8_pairs_46 : decode cX8_pairs 46 = .ok (.iload_n 1, 1) := dk_27 (dk_at dksX8_pairs_1 22 rfl rfl)
theorem dX8_pairs_47 : decode cX8_pairs 47 = .ok (.iconst (-1), 1) := dk_2 (dk_at dksX8_pairs_1 23 rfl rfl)
theorem dX8_pairs_48 : decode cX8_pairs 48 = .ok (.if_icmp .ne 10, 3) := dk_160 0 10 (dk_at dksX8_pairs_2 0 rfl rfl)
theorem dX8_pairs_51 : decode cX8_pairs 51 = .ok (.aload_n 0, 1) := dk_42 (dk_at dksX8_pairs_2 3 rfl rfl)
theorem dX8_pairs_52 : decode cX8_pairs 52 = .ok (.getfield 58, 3) := dk_180 0 58 (dk_at dksX8_pairs_2 4 rfl rfl)
theorem dX8_pairs_55 : decode cX8_pairs 55 = .ok (.iload_n 2, 1) := dk_28 (dk_at dksX8_pairs_2 7 rfl rfl)
theorem dX8_pairs_56 : decode cX8_pairs 56 = .ok (.iaload, 1) := dk_46 (dk_at dksX8_pairs_2 8 rfl rfl)
theorem dX8_pairs_57 : decode cX8_pairs 57 = .ok (.ireturn, 1) := dk_172 (dk_at dksX8_pairs_2 9 rfl rfl)
theorem dX8_pairs_58 : decode cX8_pairs 58 = .ok (.iconst (-1), 1) := dk_2 (dk_at dksX8_pairs_2 10 rfl rfl)
theorem dX8_pairs_59 : decode cX8_pairs 59 = .ok (.istore_n 3, 1) := dk_62 (dk_at dksX8_pairs_2 11 rfl rfl)
theorem dX8_pairs_60 : decode cX8_pairs 60 = .ok (.iconst 0, 1) := dk_3 (dk_at dksX8_pairs_2 12 rfl rfl)
theorem dX8_pairs_61 : decode cX8_pairs 61 = .ok (.istore 4, 2) := dk_54 4 (dk_at dksX8_pairs_2 13 rfl rfl)
theorem dX8_pairs_63 : decode cX8_pairs 63 = .ok (.iload 4, 2) := dk_21 4 (dk_at dksX8_pairs_2 15 rfl rfl)
theorem dX8_pairs_65 : decode cX8_pairs 65 = .ok (.ifCond .ne 98, 3) := dk_154 0 98 (dk_at dksX8_pairs_2 17 rfl rfl)
theorem dX8_pairs_68 : decode cX8_pairs 68 = .ok (.iload_n 2, 1) := dk_28 (dk_at dksX8_pairs_2 20 rfl rfl)
theorem dX8_pairs_69 : decode cX8_pairs 69 = .ok (.invokestatic 506, 3) := dk_184 1 250 (dk_at dksX8_pairs_2 21 rfl rfl)
theorem dX8_pairs_72 : decode cX8_pairs 72 = .ok (.istore 5, 2) := dk_54 5 (dk_at dksX8_pairs_3 0 rfl rfl)
theorem dX8_pairs_74 : decode cX8_pairs 74 = .ok (.iconst (-1), 1) := dk_2 (dk_at dksX8_pairs_3 2 rfl rfl)
theorem dX8_pairs_75 : decode cX8_pairs 75 = .ok (.istore 6, 2) := dk_54 6 (dk_at dksX8_pairs_3 3 rfl rfl)
theorem dX8_pairs_77 : decode cX8_pairs 77 = .ok (.aload_n 0, 1) := dk_42 (dk_at dksX8_pairs_3 5 rfl rfl)
theorem dX8_pairs_78 : decode cX8_pairs 78 = .ok (.iload_n 2, 1) := dk_28 (dk_at dksX8_pairs_3 6 rfl rfl)
theorem dX8_pairs_79 : decode cX8_pairs 79 = .ok (.iload 6, 2) := dk_21 6 (dk_at dksX8_pairs_3 7 rfl rfl)
theorem dX8_pairs_81 : decode cX8_pairs 81 = .ok (.invokevirtual 528, 3) := dk_182 2 16 (dk_at dksX8_pairs_3 9 rfl rfl)
theorem dX8_pairs_84 : decode cX8_pairs 84 = .ok (.aload_n 0, 1) := dk_42 (dk_at dksX8_pairs_3 12 rfl rfl)
theorem dX8_pairs_85 : decode cX8_pairs 85 = .ok (.getfield 58, 3) := dk_180 0 58 (dk_at dksX8_pairs_3 13 rfl rfl)
theorem dX8_pairs_88 : decode cX8_pairs 88 = .ok (.iload_n 2, 1) := dk_28 (dk_at dksX8_pairs_3 16 rfl rfl)
theorem dX8_pairs_89 : decode cX8_pairs 89 = .ok (.iaload, 1) := dk_46 (dk_at dksX8_pairs_3 17 rfl rfl)
theorem dX8_pairs_90 : decode cX8_pairs 90 = .ok (.if_icmp .eq 9, 3) := dk_159 0 9 (dk_at dksX8_pairs_3 18 rfl rfl)
theorem dX8_pairs_93 : decode cX8_pairs 93 = .ok (.iinc 6 1, 3) := dk_132 6 1 (dk_at dksX8_pairs_3 21 rfl rfl)
theorem dX8_pairs_96 : decode cX8_pairs 96 = .ok (.goto (-19), 3) := dk_167 255 237 (dk_at dksX8_pairs_4 0 rfl rfl)
theorem dX8_pairs_99 : decode cX8_pairs 99 = .ok (.iload 5, 2) := dk_21 5 (dk_at dksX8_pairs_4 3 rfl rfl)
theorem dX8_pairs_101 : decode cX8_pairs 101 = .ok (.iload_n 1, 1) := dk_27 (dk_at dksX8_pairs_4 5 rfl rfl)
theorem dX8_pairs_102 : decode cX8_pairs 102 = .ok (.if_icmp .eq 9, 3) := dk_159 0 9 (dk_at dksX8_pairs_4 6 rfl rfl)
theorem dX8_pairs_105 : decode cX8_pairs 105 = .ok (.iload 6, 2) := dk_21 6 (dk_at dksX8_pairs_4 9 rfl rfl)
theorem dX8_pairs_107 : decode cX8_pairs 107 = .ok (.iload_n 1, 1) := dk_27 (dk_at dksX8_pairs_4 11 rfl rfl)
theorem dX8_pairs_108 : decode cX8_pairs 108 = .ok (.if_icmp .ne 7, 3) := dk_160 0 7 (dk_at dksX8_pairs_4 12 rfl rfl)
theorem dX8_pairs_111 : decode cX8_pairs 111 = .ok (.iconst 1, 1) := dk_4 (dk_at dksX8_pairs_4 15 rfl rfl)
theorem dX8_pairs_112 : decode cX8_pairs 112 = .ok (.goto 4, 3) := dk_167 0 4 (dk_at dksX8_pairs_4 16 rfl rfl)
theorem dX8_pairs_115 : decode cX8_pairs 115 = .ok (.iconst 0, 1) := dk_3 (dk_at dksX8_pairs_4 19 rfl rfl)
theorem dX8_pairs_116 : decode cX8_pairs 116 = .ok (.istore 4, 2) := dk_54 4 (dk_at dksX8_pairs_4 20 rfl rfl)
theorem dX8_pairs_118 : decode cX8_pairs 118 = .ok (.iload 5, 2) := dk_21 5 (dk_at dksX8_pairs_4 22 rfl rfl)
theorem dX8_pairs_120 : decode cX8_pairs 120 = .ok (.iload_n 1, 1) := dk_27 (dk_at dksX8_pairs_5 0 rfl rfl)
theorem dX8_pairs_121 : decode cX8_pairs 121 = .ok (.if_icmp .ne 8, 3) := dk_160 0 8 (dk_at dksX8_pairs_5 1 rfl rfl)
theorem dX8_pairs_124 : decode cX8_pairs 124 = .ok (.iload 6, 2) := dk_21 6 (dk_at dksX8_pairs_5 4 rfl rfl)
theorem dX8_pairs_126 : decode cX8_pairs 126 = .ok (.goto 5, 3) := dk_167 0 5 (dk_at dksX8_pairs_5 6 rfl rfl)
theorem dX8_pairs_129 : decode cX8_pairs 129 = .ok (.iload 5, 2) := dk_21 5 (dk_at dksX8_pairs_5 9 rfl rfl)
theorem dX8_pairs_131 : decode cX8_pairs 131 = .ok (.istore_n 3, 1) := dk_62 (dk_at dksX8_pairs_5 11 rfl rfl)
theorem dX8_pairs_132 : decode cX8_pairs 132 = .ok (.iload_n 2, 1) := dk_28 (dk_at dksX8_pairs_5 12 rfl rfl)
theorem dX8_pairs_133 : decode cX8_pairs 133 = .ok (.iconst 1, 1) := dk_4 (dk_at dksX8_pairs_5 13 rfl rfl)
theorem dX8_pairs_134 : decode cX8_pairs 134 = .ok (.iload 5, 2) := dk_21 5 (dk_at dksX8_pairs_5 14 rfl rfl)
theorem dX8_pairs_136 : decode cX8_pairs 136 = .ok (.ishl, 1) := dk_120 (dk_at dksX8_pairs_5 16 rfl rfl)
theorem dX8_pairs_137 : decode cX8_pairs 137 = .ok (.iconst (-1), 1) := dk_2 (dk_at dksX8_pairs_5 17 rfl rfl)
theorem dX8_pairs_138 : decode cX8_pairs 138 = .ok (.ixor, 1) := dk_130 (dk_at dksX8_pairs_5 18 rfl rfl)
theorem dX8_pairs_139 : decode cX8_pairs 139 = .ok (.iand, 1) := dk_126 (dk_at dksX8_pairs_5 19 rfl rfl)
theorem dX8_pairs_140 : decode cX8_pairs 140 = .ok (.istore_n 2, 1) := dk_61 (dk_at dksX8_pairs_5 20 rfl rfl)
theorem dX8_pairs_141 : decode cX8_pairs 141 = .ok (.iload 6, 2) := dk_21 6 (dk_at dksX8_pairs_5 21 rfl rfl)
theorem dX8_pairs_143 : decode cX8_pairs 143 = .ok (.iconst (-1), 1) := dk_2 (dk_at dksX8_pairs_5 23 rfl rfl)
theorem dX8_pairs_144 : decode cX8_pairs 144 = .ok (.if_icmp .ne 7, 3) := dk_160 0 7 (dk_at dksX8_pairs_6 0 rfl rfl)
theorem dX8_pairs_147 : decode cX8_pairs 147 = .ok (.iload_n 2, 1) := dk_28 (dk_at dksX8_pairs_6 3 rfl rfl)
theorem dX8_pairs_148 : decode cX8_pairs 148 = .ok (.goto 11, 3) := dk_167 0 11 (dk_at dksX8_pairs_6 4 rfl rfl)
theorem dX8_pairs_151 : decode cX8_pairs 151 = .ok (.iload_n 2, 1) := dk_28 (dk_at dksX8_pairs_6 7 rfl rfl)
theorem dX8_pairs_152 : decode cX8_pairs 152 = .ok (.iconst 1, 1) := dk_4 (dk_at dksX8_pairs_6 8 rfl rfl)
theorem dX8_pairs_153 : decode cX8_pairs 153 = .ok (.iload 6, 2) := dk_21 6 (dk_at dksX8_pairs_6 9 rfl rfl)
theorem dX8_pairs_155 : decode cX8_pairs 155 = .ok (.ishl, 1) := dk_120 (dk_at dksX8_pairs_6 11 rfl rfl)
theorem dX8_pairs_156 : decode cX8_pairs 156 = .ok (.iconst (-1), 1) := dk_2 (dk_at dksX8_pairs_6 12 rfl rfl)
theorem dX8_pairs_157 : decode cX8_pairs 157 = .ok (.ixor, 1) := dk_130 (dk_at dksX8_pairs_6 13 rfl rfl)
theorem dX8_pairs_158 : decode cX8_pairs 158 = .ok (.iand, 1) := dk_126 (dk_at dksX8_pairs_6 14 rfl rfl)
theorem dX8_pairs_159 : decode cX8_pairs 159 = .ok (.istore_n 2, 1) := dk_61 (dk_at dksX8_pairs_6 15 rfl rfl)
theorem dX8_pairs_160 : decode cX8_pairs 160 = .ok (.goto (-97), 3) := dk_167 255 159 (dk_at dksX8_pairs_6 16 rfl rfl)
theorem dX8_pairs_163 : decode cX8_pairs 163 = .ok (.iload_n 3, 1) := dk_29 (dk_at dksX8_pairs_6 19 rfl rfl)
theorem dX8_pairs_164 : decode cX8_pairs 164 = .ok (.ireturn, 1) := dk_172 (dk_at dksX8_pairs_6 20 rfl rfl)
abbrev cX8_laysPairs : ByteArray := prog_19_method_144_code
def yX8_laysPairs : MethodName := ⟨RX8, "laysPairs", "()V"⟩
def dkwX8_laysPairs_2 : List UInt8 := [42, 180, 0, 58, 27, 28, 79, 132, 1, 1, 167, 255, 207, 177]
abbrev dktX8_laysPairs_2 : List UInt8 := dkwX8_laysPairs_2 ++ []
def dkwX8_laysPairs_1 : List UInt8 := [42, 182, 0, 84, 162, 0, 20, 28, 42, 27, 29, 182, 2, 16, 184, 1, 253, 61, 132, 3, 1, 167, 255, 234]
abbrev dktX8_laysPairs_1 : List UInt8 := dkwX8_laysPairs_1 ++ dktX8_laysPairs_2
def dkwX8_laysPairs_0 : List UInt8 := [42, 180, 0, 58, 3, 3, 79, 4, 60, 27, 4, 42, 182, 0, 84, 120, 162, 0, 45, 3, 61, 2, 62, 29]
abbrev dktX8_laysPairs_0 : List UInt8 := dkwX8_laysPairs_0 ++ dktX8_laysPairs_1
theorem dksX8_laysPairs_0 : cX8_laysPairs.data.toList.drop 0 = dktX8_laysPairs_0 := by decide +kernel
theorem dksX8_laysPairs_1 : cX8_laysPairs.data.toList.drop 24 = dktX8_laysPairs_1 := dk_seg dksX8_laysPairs_0 24 rfl rfl
theorem dksX8_laysPairs_2 : cX8_laysPairs.data.toList.drop 48 = dktX8_laysPairs_2 := dk_seg dksX8_laysPairs_1 24 rfl rfl
theorem dX8_laysPairs_0 : decode cX8_laysPairs 0 = .ok (.aload_n 0, 1) := dk_42 (dk_at dksX8_laysPairs_0 0 rfl rfl)
theorem dX8_laysPairs_1 : decode cX8_laysPairs 1 = .ok (.getfield 58, 3) := dk_180 0 58 (dk_at dksX8_laysPairs_0 1 rfl rfl)
theorem dX8_laysPairs_4 : decode cX8_laysPairs 4 = .ok (.iconst 0, 1) := dk_3 (dk_at dksX8_laysPairs_0 4 rfl rfl)
theorem dX8_laysPairs_5 : decode cX8_laysPairs 5 = .ok (.iconst 0, 1) := dk_3 (dk_at dksX8_laysPairs_0 5 rfl rfl)
theorem dX8_laysPairs_6 : decode cX8_laysPairs 6 = .ok (.iastore, 1) := dk_79 (dk_at dksX8_laysPairs_0 6 rfl rfl)
theorem dX8_laysPairs_7 : decode cX8_laysPairs 7 = .ok (.iconst 1, 1) := dk_4 (dk_at dksX8_laysPairs_0 7 rfl rfl)
theorem dX8_laysPairs_8 : decode cX8_laysPairs 8 = .ok (.istore_n 1, 1) := dk_60 (dk_at dksX8_laysPairs_0 8 rfl rfl)
theorem dX8_laysPairs_9 : decode cX8_laysPairs 9 = .ok (.iload_n 1, 1) := dk_27 (dk_at dksX8_laysPairs_0 9 rfl rfl)
theorem dX8_laysPairs_10 : decode cX8_laysPairs 10 = .ok (.iconst 1, 1) := dk_4 (dk_at dksX8_laysPairs_0 10 rfl rfl)
theorem dX8_laysPairs_11 : decode cX8_laysPairs 11 = .ok (.aload_n 0, 1) := dk_42 (dk_at dksX8_laysPairs_0 11 rfl rfl)
theorem dX8_laysPairs_12 : decode cX8_laysPairs 12 = .ok (.invokevirtual 84, 3) := dk_182 0 84 (dk_at dksX8_laysPairs_0 12 rfl rfl)
theorem dX8_laysPairs_15 : decode cX8_laysPairs 15 = .ok (.ishl, 1) := dk_120 (dk_at dksX8_laysPairs_0 15 rfl rfl)
theorem dX8_laysPairs_16 : decode cX8_laysPairs 16 = .ok (.if_icmp .ge 45, 3) := dk_162 0 45 (dk_at dksX8_laysPairs_0 16 rfl rfl)
theorem dX8_laysPairs_19 : decode cX8_laysPairs 19 = .ok (.iconst 0, 1) := dk_3 (dk_at dksX8_laysPairs_0 19 rfl rfl)
theorem dX8_laysPairs_20 : decode cX8_laysPairs 20 = .ok (.istore_n 2, 1) := dk_61 (dk_at dksX8_laysPairs_0 20 rfl rfl)
theorem dX8_laysPairs_21 : decode cX8_laysPairs 21 = .ok (.iconst (-1), 1) := dk_2 (dk_at dksX8_laysPairs_0 21 rfl rfl)
theorem dX8_laysPairs_22 : decode cX8_laysPairs 22 = .ok (.istore_n 3, 1) := dk_62 (dk_at dksX8_laysPairs_0 22 rfl rfl)
theorem dX8_laysPairs_23 : decode cX8_laysPairs 23 = .ok (.iload_n 3, 1) := dk_29 (dk_at dksX8_laysPairs_0 23 rfl rfl)
theorem dX8_laysPairs_24 : decode cX8_laysPairs 24 = .ok (.aload_n 0, 1) := dk_42 (dk_at dksX8_laysPairs_1 0 rfl rfl)
theorem dX8_laysPairs_25 : decode cX8_laysPairs 25 = .ok (.invokevirtual 84, 3) := dk_182 0 84 (dk_at dksX8_laysPairs_1 1 rfl rfl)
theorem dX8_laysPairs_28 : decode cX8_laysPairs 28 = .ok (.if_icmp .ge 20, 3) := dk_162 0 20 (dk_at dksX8_laysPairs_1 4 rfl rfl)
theorem dX8_laysPairs_31 : decode cX8_laysPairs 31 = .ok (.iload_n 2, 1) := dk_28 (dk_at dksX8_laysPairs_1 7 rfl rfl)
theorem dX8_laysPairs_32 : decode cX8_laysPairs 32 = .ok (.aload_n 0, 1) := dk_42 (dk_at dksX8_laysPairs_1 8 rfl rfl)
theorem dX8_laysPairs_33 : decode cX8_laysPairs 33 = .ok (.iload_n 1, 1) := dk_27 (dk_at dksX8_laysPairs_1 9 rfl rfl)
theorem dX8_laysPairs_34 : decode cX8_laysPairs 34 = .ok (.iload_n 3, 1) := dk_29 (dk_at dksX8_laysPairs_1 10 rfl rfl)
theorem dX8_laysPairs_35 : decode cX8_laysPairs 35 = .ok (.invokevirtual 528, 3) := dk_182 2 16 (dk_at dksX8_laysPairs_1 11 rfl rfl)
theorem dX8_laysPairs_38 : decode cX8_laysPairs 38 = .ok (.invokestatic 509, 3) := dk_184 1 253 (dk_at dksX8_laysPairs_1 14 rfl rfl)
theorem dX8_laysPairs_41 : decode cX8_laysPairs 41 = .ok (.istore_n 2, 1) := dk_61 (dk_at dksX8_laysPairs_1 17 rfl rfl)
theorem dX8_laysPairs_42 : decode cX8_laysPairs 42 = .ok (.iinc 3 1, 3) := dk_132 3 1 (dk_at dksX8_laysPairs_1 18 rfl rfl)
theorem dX8_laysPairs_45 : decode cX8_laysPairs 45 = .ok (.goto (-22), 3) := dk_167 255 234 (dk_at dksX8_laysPairs_1 21 rfl rfl)
theorem dX8_laysPairs_48 : decode cX8_laysPairs 48 = .ok (.aload_n 0, 1) := dk_42 (dk_at dksX8_laysPairs_2 0 rfl rfl)
theorem dX8_laysPairs_49 : decode cX8_laysPairs 49 = .ok (.getfield 58, 3) := dk_180 0 58 (dk_at dksX8_laysPairs_2 1 rfl rfl)
theorem dX8_laysPairs_52 : decode cX8_laysPairs 52 = .ok (.iload_n 1, 1) := dk_27 (dk_at dksX8_laysPairs_2 4 rfl rfl)
theorem dX8_laysPairs_53 : decode cX8_laysPairs 53 = .ok (.iload_n 2, 1) := dk_28 (dk_at dksX8_laysPairs_2 5 rfl rfl)
theorem dX8_laysPairs_54 : decode cX8_laysPairs 54 = .ok (.iastore, 1) := dk_79 (dk_at dksX8_laysPairs_2 6 rfl rfl)
theorem dX8_laysPairs_55 : decode cX8_laysPairs 55 = .ok (.iinc 1 1, 3) := dk_132 1 1 (dk_at dksX8_laysPairs_2 7 rfl rfl)
theorem dX8_laysPairs_58 : decode cX8_laysPairs 58 = .ok (.goto (-49), 3) := dk_167 255 207 (dk_at dksX8_laysPairs_2 10 rfl rfl)
theorem dX8_laysPairs_61 : decode cX8_laysPairs 61 = .ok (.return_, 1) := dk_177 (dk_at dksX8_laysPairs_2 13 rfl rfl)
abbrev cX8_pairedBy : ByteArray := prog_19_method_143_code
def yX8_pairedBy : MethodName := ⟨RX8, "pairedBy", "(II)I"⟩
def dkwX8_pairedBy_3 : List UInt8 := [96, 167, 0, 4, 2, 172]
abbrev dktX8_pairedBy_3 : List UInt8 := dkwX8_pairedBy_3 ++ []
def dkwX8_pairedBy_2 : List UInt8 := [3, 182, 0, 78, 42, 28, 3, 182, 0, 78, 96, 42, 180, 0, 58, 21, 4, 4, 28, 120, 2, 130, 126, 46]
abbrev dktX8_pairedBy_2 : List UInt8 := dkwX8_pairedBy_2 ++ dktX8_pairedBy_3
def dkwX8_pairedBy_1 : List UInt8 := [21, 4, 46, 172, 21, 4, 28, 184, 1, 229, 153, 0, 42, 42, 29, 28, 182, 1, 226, 154, 0, 33, 42, 29]
abbrev dktX8_pairedBy_1 : List UInt8 := dkwX8_pairedBy_1 ++ dktX8_pairedBy_2
def dkwX8_pairedBy_0 : List UInt8 := [27, 184, 1, 250, 62, 27, 4, 29, 120, 2, 130, 126, 54, 4, 28, 2, 160, 0, 11, 42, 180, 0, 58]
abbrev dktX8_pairedBy_0 : List UInt8 := dkwX8_pairedBy_0 ++ dktX8_pairedBy_1
theorem dksX8_pairedBy_0 : cX8_pairedBy.data.toList.drop 0 = dktX8_pairedBy_0 := by decide +kernel
theorem dksX8_pairedBy_1 : cX8_pairedBy.data.toList.drop 23 = dktX8_pairedBy_1 := dk_seg dksX8_pairedBy_0 23 rfl rfl
theorem dksX8_pairedBy_2 : cX8_pairedBy.data.toList.drop 47 = dktX8_pairedBy_2 := dk_seg dksX8_pairedBy_1 24 rfl rfl
theorem dksX8_pairedBy_3 : cX8_pairedBy.data.toList.drop 71 = dktX8_pairedBy_3 := dk_seg dksX8_pairedBy_2 24 rfl rfl
theorem dX8_pairedBy_0 : decode cX8_pairedBy 0 = .ok (.iload_n 1, 1) := dk_27 (dk_at dksX8_pairedBy_0 0 rfl rfl)
theorem dX8_pairedBy_1 : decode cX8_pairedBy 1 = .ok (.invokestatic 506, 3) := dk_184 1 250 (dk_at dksX8_pairedBy_0 1 rfl rfl)
theorem dX8_pairedBy_4 : decode cX8_pairedBy 4 = .ok (.istore_n 3, 1) := dk_62 (dk_at dksX8_pairedBy_0 4 rfl rfl)
theorem dX8_pairedBy_5 : decode cX8_pairedBy 5 = .ok (.iload_n 1, 1) := dk_27 (dk_at dksX8_pairedBy_0 5 rfl rfl)
theorem dX8_pairedBy_6 : decode cX8_pairedBy 6 = .ok (.iconst 1, 1) := dk_4 (dk_at dksX8_pairedBy_0 6 rfl rfl)
theorem dX8_pairedBy_7 : decode cX8_pairedBy 7 = .ok (.iload_n 3, 1) := dk_29 (dk_at dksX8_pairedBy_0 7 rfl rfl)
theorem dX8_pairedBy_8 : decode cX8_pairedBy 8 = .ok (.ishl, 1) := dk_120 (dk_at dksX8_pairedBy_0 8 rfl rfl)
theorem dX8_pairedBy_9 : decode cX8_pairedBy 9 = .ok (.iconst (-1), 1) := dk_2 (dk_at dksX8_pairedBy_0 9 rfl rfl)
theorem dX8_pairedBy_10 : decode cX8_pairedBy 10 = .ok (.ixor, 1) := dk_130 (dk_at dksX8_pairedBy_0 10 rfl rfl)
theorem dX8_pairedBy_11 : decode cX8_pairedBy 11 = .ok (.iand, 1) := dk_126 (dk_at dksX8_pairedBy_0 11 rfl rfl)
theorem dX8_pairedBy_12 : decode cX8_pairedBy 12 = .ok (.istore 4, 2) := dk_54 4 (dk_at dksX8_pairedBy_0 12 rfl rfl)
theorem dX8_pairedBy_14 : decode cX8_pairedBy 14 = .ok (.iload_n 2, 1) := dk_28 (dk_at dksX8_pairedBy_0 14 rfl rfl)
theorem dX8_pairedBy_15 : decode cX8_pairedBy 15 = .ok (.iconst (-1), 1) := dk_2 (dk_at dksX8_pairedBy_0 15 rfl rfl)
theorem dX8_pairedBy_16 : decode cX8_pairedBy 16 = .ok (.if_icmp .ne 11, 3) := dk_160 0 11 (dk_at dksX8_pairedBy_0 16 rfl rfl)
theorem dX8_pairedBy_19 : decode cX8_pairedBy 19 = .ok (.aload_n 0, 1) := dk_42 (dk_at dksX8_pairedBy_0 19 rfl rfl)
theorem dX8_pairedBy_20 : decode cX8_pairedBy 20 = .ok (.getfield 58, 3) := dk_180 0 58 (dk_at dksX8_pairedBy_0 20 rfl rfl)
theorem dX8_pairedBy_23 : decode cX8_pairedBy 23 = .ok (.iload 4, 2) := dk_21 4 (dk_at dksX8_pairedBy_1 0 rfl rfl)
theorem dX8_pairedBy_25 : decode cX8_pairedBy 25 = .ok (.iaload, 1) := dk_46 (dk_at dksX8_pairedBy_1 2 rfl rfl)
theorem dX8_pairedBy_26 : decode cX8_pairedBy 26 = .ok (.ireturn, 1) := dk_172 (dk_at dksX8_pairedBy_1 3 rfl rfl)
theorem dX8_pairedBy_27 : decode cX8_pairedBy 27 = .ok (.iload 4, 2) := dk_21 4 (dk_at dksX8_pairedBy_1 4 rfl rfl)
theorem dX8_pairedBy_29 : decode cX8_pairedBy 29 = .ok (.iload_n 2, 1) := dk_28 (dk_at dksX8_pairedBy_1 6 rfl rfl)
theorem dX8_pairedBy_30 : decode cX8_pairedBy 30 = .ok (.invokestatic 485, 3) := dk_184 1 229 (dk_at dksX8_pairedBy_1 7 rfl rfl)
theorem dX8_pairedBy_33 : decode cX8_pairedBy 33 = .ok (.ifCond .eq 42, 3) := dk_153 0 42 (dk_at dksX8_pairedBy_1 10 rfl rfl)
theorem dX8_pairedBy_36 : decode cX8_pairedBy 36 = .ok (.aload_n 0, 1) := dk_42 (dk_at dksX8_pairedBy_1 13 rfl rfl)
theorem dX8_pairedBy_37 : decode cX8_pairedBy 37 = .ok (.iload_n 3, 1) := dk_29 (dk_at dksX8_pairedBy_1 14 rfl rfl)
theorem dX8_pairedBy_38 : decode cX8_pairedBy 38 = .ok (.iload_n 2, 1) := dk_28 (dk_at dksX8_pairedBy_1 15 rfl rfl)
theorem dX8_pairedBy_39 : decode cX8_pairedBy 39 = .ok (.invokevirtual 482, 3) := dk_182 1 226 (dk_at dksX8_pairedBy_1 16 rfl rfl)
theorem dX8_pairedBy_42 : decode cX8_pairedBy 42 = .ok (.ifCond .ne 33, 3) := dk_154 0 33 (dk_at dksX8_pairedBy_1 19 rfl rfl)
theorem dX8_pairedBy_45 : decode cX8_pairedBy 45 = .ok (.aload_n 0, 1) := dk_42 (dk_at dksX8_pairedBy_1 22 rfl rfl)
theorem dX8_pairedBy_46 : decode cX8_pairedBy 46 = .ok (.iload_n 3, 1) := dk_29 (dk_at dksX8_pairedBy_1 23 rfl rfl)
theorem dX8_pairedBy_47 : decode cX8_pairedBy 47 = .ok (.iconst 0, 1) := dk_3 (dk_at dksX8_pairedBy_2 0 rfl rfl)
theorem dX8_pairedBy_48 : decode cX8_pairedBy 48 = .ok (.invokevirtual 78, 3) := dk_182 0 78 (dk_at dksX8_pairedBy_2 1 rfl rfl)
theorem dX8_pairedBy_51 : decode cX8_pairedBy 51 = .ok (.aload_n 0, 1) := dk_42 (dk_at dksX8_pairedBy_2 4 rfl rfl)
theorem dX8_pairedBy_52 : decode cX8_pairedBy 52 = .ok (.iload_n 2, 1) := dk_28 (dk_at dksX8_pairedBy_2 5 rfl rfl)
theorem dX8_pairedBy_53 : decode cX8_pairedBy 53 = .ok (.iconst 0, 1) := dk_3 (dk_at dksX8_pairedBy_2 6 rfl rfl)
theorem dX8_pairedBy_54 : decode cX8_pairedBy 54 = .ok (.invokevirtual 78, 3) := dk_182 0 78 (dk_at dksX8_pairedBy_2 7 rfl rfl)
theorem dX8_pairedBy_57 : decode cX8_pairedBy 57 = .ok (.iadd, 1) := dk_96 (dk_at dksX8_pairedBy_2 10 rfl rfl)
theorem dX8_pairedBy_58 : decode cX8_pairedBy 58 = .ok (.aload_n 0, 1) := dk_42 (dk_at dksX8_pairedBy_2 11 rfl rfl)
theorem dX8_pairedBy_59 : decode cX8_pairedBy 59 = .ok (.getfield 58, 3) := dk_180 0 58 (dk_at dksX8_pairedBy_2 12 rfl rfl)
theorem dX8_pairedBy_62 : decode cX8_pairedBy 62 = .ok (.iload 4, 2) := dk_21 4 (dk_at dksX8_pairedBy_2 15 rfl rfl)
theorem dX8_pairedBy_64 : decode cX8_pairedBy 64 = .ok (.iconst 1, 1) := dk_4 (dk_at dksX8_pairedBy_2 17 rfl rfl)
theorem dX8_pairedBy_65 : decode cX8_pairedBy 65 = .ok (.iload_n 2, 1) := dk_28 (dk_at dksX8_pairedBy_2 18 rfl rfl)
theorem dX8_pairedBy_66 : decode cX8_pairedBy 66 = .ok (.ishl, 1) := dk_120 (dk_at dksX8_pairedBy_2 19 rfl rfl)
theorem dX8_pairedBy_67 : decode cX8_pairedBy 67 = .ok (.iconst (-1), 1) := dk_2 (dk_at dksX8_pairedBy_2 20 rfl rfl)
theorem dX8_pairedBy_68 : decode cX8_pairedBy 68 = .ok (.ixor, 1) := dk_130 (dk_at dksX8_pairedBy_2 21 rfl rfl)
theorem dX8_pairedBy_69 : decode cX8_pairedBy 69 = .ok (.iand, 1) := dk_126 (dk_at dksX8_pairedBy_2 22 rfl rfl)
theorem dX8_pairedBy_70 : decode cX8_pairedBy 70 = .ok (.iaload, 1) := dk_46 (dk_at dksX8_pairedBy_2 23 rfl rfl)
theorem dX8_pairedBy_71 : decode cX8_pairedBy 71 = .ok (.iadd, 1) := dk_96 (dk_at dksX8_pairedBy_3 0 rfl rfl)
theorem dX8_pairedBy_72 : decode cX8_pairedBy 72 = .ok (.goto 4, 3) := dk_167 0 4 (dk_at dksX8_pairedBy_3 1 rfl rfl)
theorem dX8_pairedBy_75 : decode cX8_pairedBy 75 = .ok (.iconst (-1), 1) := dk_2 (dk_at dksX8_pairedBy_3 4 rfl rfl)
theorem dX8_pairedBy_76 : decode cX8_pairedBy 76 = .ok (.ireturn, 1) := dk_172 (dk_at dksX8_pairedBy_3 5 rfl rfl)
abbrev cX8_rests : ByteArray := prog_19_method_148_code
def yX8_rests : MethodName := ⟨RX8, "rests", "(I)I"⟩
def dkwX8_rests_4 : List UInt8 := [3, 128, 61, 132, 4, 1, 167, 255, 190, 132, 3, 1, 167, 255, 176, 28, 172]
abbrev dktX8_rests_4 : List UInt8 := dkwX8_rests_4 ++ []
def dkwX8_rests_3 : List UInt8 := [42, 27, 29, 4, 21, 4, 100, 182, 2, 25, 161, 0, 14, 4, 5, 29, 104, 21, 4, 96, 120, 167, 0, 4]
abbrev dktX8_rests_3 : List UInt8 := dkwX8_rests_3 ++ dktX8_rests_4
def dkwX8_rests_2 : List UInt8 := [182, 2, 22, 42, 27, 4, 29, 100, 21, 4, 182, 2, 22, 161, 0, 35, 42, 27, 29, 21, 4, 182, 2, 25]
abbrev dktX8_rests_2 : List UInt8 := dkwX8_rests_2 ++ dktX8_rests_3
def dkwX8_rests_1 : List UInt8 := [3, 61, 3, 62, 29, 5, 162, 0, 81, 3, 54, 4, 21, 4, 5, 162, 0, 66, 28, 42, 27, 29, 21, 4]
abbrev dktX8_rests_1 : List UInt8 := dkwX8_rests_1 ++ dktX8_rests_2
def dkwX8_rests_0 : List UInt8 := [42, 3, 181, 0, 3, 42, 42, 27, 182, 1, 177, 4, 182, 1, 24, 153, 0, 5, 3, 172, 42, 182, 1, 167]
abbrev dktX8_rests_0 : List UInt8 := dkwX8_rests_0 ++ dktX8_rests_1
theorem dksX8_rests_0 : cX8_rests.data.toList.drop 0 = dktX8_rests_0 := by decide +kernel
theorem dksX8_rests_1 : cX8_rests.data.toList.drop 24 = dktX8_rests_1 := dk_seg dksX8_rests_0 24 rfl rfl
theorem dksX8_rests_2 : cX8_rests.data.toList.drop 48 = dktX8_rests_2 := dk_seg dksX8_rests_1 24 rfl rfl
theorem dksX8_rests_3 : cX8_rests.data.toList.drop 72 = dktX8_rests_3 := dk_seg dksX8_rests_2 24 rfl rfl
theorem dksX8_rests_4 : cX8_rests.data.toList.drop 96 = dktX8_rests_4 := dk_seg dksX8_rests_3 24 rfl rfl
theorem dX8_rests_0 : decode cX8_rests 0 = .ok (.aload_n 0, 1) := dk_42 (dk_at dksX8_rests_0 0 rfl rfl)
theorem dX8_rests_1 : decode cX8_rests 1 = .ok (.iconst 0, 1) := dk_3 (dk_at dksX8_rests_0 1 rfl rfl)
theorem dX8_rests_2 : decode cX8_rests 2 = .ok (.putfield 3, 3) := dk_181 0 3 (dk_at dksX8_rests_0 2 rfl rfl)
theorem dX8_rests_5 : decode cX8_rests 5 = .ok (.aload_n 0, 1) := dk_42 (dk_at dksX8_rests_0 5 rfl rfl)
theorem dX8_rests_6 : decode cX8_rests 6 = .ok (.aload_n 0, 1) := dk_42 (dk_at dksX8_rests_0 6 rfl rfl)
theorem dX8_rests_7 : decode cX8_rests 7 = .ok (.iload_n 1, 1) := dk_27 (dk_at dksX8_rests_0 7 rfl rfl)
theorem dX8_rests_8 : decode cX8_rests 8 = .ok (.invokevirtual 433, 3) := dk_182 1 177 (dk_at dksX8_rests_0 8 rfl rfl)
theorem dX8_rests_11 : decode cX8_rests 11 = .ok (.iconst 1, 1) := dk_4 (dk_at dksX8_rests_0 11 rfl rfl)
theorem dX8_rests_12 : decode cX8_rests 12 = .ok (.invokevirtual 280, 3) := dk_182 1 24 (dk_at dksX8_rests_0 12 rfl rfl)
theorem dX8_rests_15 : decode cX8_rests 15 = .ok (.ifCond .eq 5, 3) := dk_153 0 5 (dk_at dksX8_rests_0 15 rfl rfl)
theorem dX8_rests_18 : decode cX8_rests 18 = .ok (.iconst 0, 1) := dk_3 (dk_at dksX8_rests_0 18 rfl rfl)
theorem dX8_rests_19 : decode cX8_rests 19 = .ok (.ireturn, 1) := dk_172 (dk_at dksX8_rests_0 19 rfl rfl)
theorem dX8_rests_20 : decode cX8_rests 20 = .ok (.aload_n 0, 1) := dk_42 (dk_at dksX8_rests_0 20 rfl rfl)
theorem dX8_rests_21 : decode cX8_rests 21 = .ok (.invokevirtual 423, 3) := dk_182 1 167 (dk_at dksX8_rests_0 21 rfl rfl)
theorem dX8_rests_24 : decode cX8_rests 24 = .ok (.iconst 0, 1) := dk_3 (dk_at dksX8_rests_1 0 rfl rfl)
theorem dX8_rests_25 : decode cX8_rests 25 = .ok (.istore_n 2, 1) := dk_61 (dk_at dksX8_rests_1 1 rfl rfl)
theorem dX8_rests_26 : decode cX8_rests 26 = .ok (.iconst 0, 1) := dk_3 (dk_at dksX8_rests_1 2 rfl rfl)
theorem dX8_rests_27 : decode cX8_rests 27 = .ok (.istore_n 3, 1) := dk_62 (dk_at dksX8_rests_1 3 rfl rfl)
theorem dX8_rests_28 : decode cX8_rests 28 = .ok (.iload_n 3, 1) := dk_29 (dk_at dksX8_rests_1 4 rfl rfl)
theorem dX8_rests_29 : decode cX8_rests 29 = .ok (.iconst 2, 1) := dk_5 (dk_at dksX8_rests_1 5 rfl rfl)
theorem dX8_rests_30 : decode cX8_rests 30 = .ok (.if_icmp .ge 81, 3) := dk_162 0 81 (dk_at dksX8_rests_1 6 rfl rfl)
theorem dX8_rests_33 : decode cX8_rests 33 = .ok (.iconst 0, 1) := dk_3 (dk_at dksX8_rests_1 9 rfl rfl)
theorem dX8_rests_34 : decode cX8_rests 34 = .ok (.istore 4, 2) := dk_54 4 (dk_at dksX8_rests_1 10 rfl rfl)
theorem dX8_rests_36 : decode cX8_rests 36 = .ok (.iload 4, 2) := dk_21 4 (dk_at dksX8_rests_1 12 rfl rfl)
theorem dX8_rests_38 : decode cX8_rests 38 = .ok (.iconst 2, 1) := dk_5 (dk_at dksX8_rests_1 14 rfl rfl)
theorem dX8_rests_39 : decode cX8_rests 39 = .ok (.if_icmp .ge 66, 3) := dk_162 0 66 (dk_at dksX8_rests_1 15 rfl rfl)
theorem dX8_rests_42 : decode cX8_rests 42 = .ok (.iload_n 2, 1) := dk_28 (dk_at dksX8_rests_1 18 rfl rfl)
theorem dX8_rests_43 : decode cX8_rests 43 = .ok (.aload_n 0, 1) := dk_42 (dk_at dksX8_rests_1 19 rfl rfl)
theorem dX8_rests_44 : decode cX8_rests 44 = .ok (.iload_n 1, 1) := dk_27 (dk_at dksX8_rests_1 20 rfl rfl)
theorem dX8_rests_45 : decode cX8_rests 45 = .ok (.iload_n 3, 1) := dk_29 (dk_at dksX8_rests_1 21 rfl rfl)
theorem dX8_rests_46 : decode cX8_rests 46 = .ok (.iload 4, 2) := dk_21 4 (dk_at dksX8_rests_1 22 rfl rfl)
theorem dX8_rests_48 : decode cX8_rests 48 = .ok (.invokevirtual 534, 3) := dk_182 2 22 (dk_at dksX8_rests_2 0 rfl rfl)
theorem dX8_rests_51 : decode cX8_rests 51 = .ok (.aload_n 0, 1) := dk_42 (dk_at dksX8_rests_2 3 rfl rfl)
theorem dX8_rests_52 : decode cX8_rests 52 = .ok (.iload_n 1, 1) := dk_27 (dk_at dksX8_rests_2 4 rfl rfl)
theorem dX8_rests_53 : decode cX8_rests 53 = .ok (.iconst 1, 1) := dk_4 (dk_at dksX8_rests_2 5 rfl rfl)
theorem dX8_rests_54 : decode cX8_rests 54 = .ok (.iload_n 3, 1) := dk_29 (dk_at dksX8_rests_2 6 rfl rfl)
theorem dX8_rests_55 : decode cX8_rests 55 = .ok (.isub, 1) := dk_100 (dk_at dksX8_rests_2 7 rfl rfl)
theorem dX8_rests_56 : decode cX8_rests 56 = .ok (.iload 4, 2) := dk_21 4 (dk_at dksX8_rests_2 8 rfl rfl)
theorem dX8_rests_58 : decode cX8_rests 58 = .ok (.invokevirtual 534, 3) := dk_182 2 22 (dk_at dksX8_rests_2 10 rfl rfl)
theorem dX8_rests_61 : decode cX8_rests 61 = .ok (.if_icmp .lt 35, 3) := dk_161 0 35 (dk_at dksX8_rests_2 13 rfl rfl)
theorem dX8_rests_64 : decode cX8_rests 64 = .ok (.aload_n 0, 1) := dk_42 (dk_at dksX8_rests_2 16 rfl rfl)
theorem dX8_rests_65 : decode cX8_rests 65 = .ok (.iload_n 1, 1) := dk_27 (dk_at dksX8_rests_2 17 rfl rfl)
theorem dX8_rests_66 : decode cX8_rests 66 = .ok (.iload_n 3, 1) := dk_29 (dk_at dksX8_rests_2 18 rfl rfl)
theorem dX8_rests_67 : decode cX8_rests 67 = .ok (.iload 4, 2) := dk_21 4 (dk_at dksX8_rests_2 19 rfl rfl)
theorem dX8_rests_69 : decode cX8_rests 69 = .ok (.invokevirtual 537, 3) := dk_182 2 25 (dk_at dksX8_rests_2 21 rfl rfl)
theorem dX8_rests_72 : decode cX8_rests 72 = .ok (.aload_n 0, 1) := dk_42 (dk_at dksX8_rests_3 0 rfl rfl)
theorem dX8_rests_73 : decode cX8_rests 73 = .ok (.iload_n 1, 1) := dk_27 (dk_at dksX8_rests_3 1 rfl rfl)
theorem dX8_rests_74 : decode cX8_rests 74 = .ok (.iload_n 3, 1) := dk_29 (dk_at dksX8_rests_3 2 rfl rfl)
theorem dX8_rests_75 : decode cX8_rests 75 = .ok (.iconst 1, 1) := dk_4 (dk_at dksX8_rests_3 3 rfl rfl)
theorem dX8_rests_76 : decode cX8_rests 76 = .ok (.iload 4, 2) := dk_21 4 (dk_at dksX8_rests_3 4 rfl rfl)
theorem dX8_rests_78 : decode cX8_rests 78 = .ok (.isub, 1) := dk_100 (dk_at dksX8_rests_3 6 rfl rfl)
theorem dX8_rests_79 : decode cX8_rests 79 = .ok (.invokevirtual 537, 3) := dk_182 2 25 (dk_at dksX8_rests_3 7 rfl rfl)
theorem dX8_rests_82 : decode cX8_rests 82 = .ok (.if_icmp .lt 14, 3) := dk_161 0 14 (dk_at dksX8_rests_3 10 rfl rfl)
theorem dX8_rests_85 : decode cX8_rests 85 = .ok (.iconst 1, 1) := dk_4 (dk_at dksX8_rests_3 13 rfl rfl)
theorem dX8_rests_86 : decode cX8_rests 86 = .ok (.iconst 2, 1) := dk_5 (dk_at dksX8_rests_3 14 rfl rfl)
theorem dX8_rests_87 : decode cX8_rests 87 = .ok (.iload_n 3, 1) := dk_29 (dk_at dksX8_rests_3 15 rfl rfl)
theorem dX8_rests_88 : decode cX8_rests 88 = .ok (.imul, 1) := dk_104 (dk_at dksX8_rests_3 16 rfl rfl)
theorem dX8_rests_89 : decode cX8_rests 89 = .ok (.iload 4, 2) := dk_21 4 (dk_at dksX8_rests_3 17 rfl rfl)
theorem dX8_rests_91 : decode cX8_rests 91 = .ok (.iadd, 1) := dk_96 (dk_at dksX8_rests_3 19 rfl rfl)
theorem dX8_rests_92 : decode cX8_rests 92 = .ok (.ishl, 1) := dk_120 (dk_at dksX8_rests_3 20 rfl rfl)
theorem dX8_rests_93 : decode cX8_rests 93 = .ok (.goto 4, 3) := dk_167 0 4 (dk_at dksX8_rests_3 21 rfl rfl)
theorem dX8_rests_96 : decode cX8_rests 96 = .ok (.iconst 0, 1) := dk_3 (dk_at dksX8_rests_4 0 rfl rfl)
theorem dX8_rests_97 : decode cX8_rests 97 = .ok (.ior, 1) := dk_128 (dk_at dksX8_rests_4 1 rfl rfl)
theorem dX8_rests_98 : decode cX8_rests 98 = .ok (.istore_n 2, 1) := dk_61 (dk_at dksX8_rests_4 2 rfl rfl)
theorem dX8_rests_99 : decode cX8_rests 99 = .ok (.iinc 4 1, 3) := dk_132 4 1 (dk_at dksX8_rests_4 3 rfl rfl)
theorem dX8_rests_102 : decode cX8_rests 102 = .ok (.goto (-66), 3) := dk_167 255 190 (dk_at dksX8_rests_4 6 rfl rfl)
theorem dX8_rests_105 : decode cX8_rests 105 = .ok (.iinc 3 1, 3) := dk_132 3 1 (dk_at dksX8_rests_4 9 rfl rfl)
theorem dX8_rests_108 : decode cX8_rests 108 = .ok (.goto (-80), 3) := dk_167 255 176 (dk_at dksX8_rests_4 12 rfl rfl)
theorem dX8_rests_111 : decode cX8_rests 111 = .ok (.iload_n 2, 1) := dk_28 (dk_at dksX8_rests_4 15 rfl rfl)
theorem dX8_rests_112 : decode cX8_rests 112 = .ok (.ireturn, 1) := dk_172 (dk_at dksX8_rests_4 16 rfl rfl)
abbrev cX8_guestHas : ByteArray := prog_19_method_146_code
def yX8_guestHas : MethodName := ⟨RX8, "guestHas", "(III)I"⟩
def dkwX8_guestHas_1 : List UInt8 := [182, 0, 78, 172]
abbrev dktX8_guestHas_1 : List UInt8 := dkwX8_guestHas_1 ++ []
def dkwX8_guestHas_0 : List UInt8 := [28, 4, 160, 0, 5, 3, 172, 29, 154, 0, 13, 42, 4, 27, 182, 1, 125, 116, 167, 0, 9, 42, 27, 3]
abbrev dktX8_guestHas_0 : List UInt8 := dkwX8_guestHas_0 ++ dktX8_guestHas_1
theorem dksX8_guestHas_0 : cX8_guestHas.data.toList.drop 0 = dktX8_guestHas_0 := by decide +kernel
theorem dksX8_guestHas_1 : cX8_guestHas.data.toList.drop 24 = dktX8_guestHas_1 := dk_seg dksX8_guestHas_0 24 rfl rfl
theorem dX8_guestHas_0 : decode cX8_guestHas 0 = .ok (.iload_n 2, 1) := dk_28 (dk_at dksX8_guestHas_0 0 rfl rfl)
theorem dX8_guestHas_1 : decode cX8_guestHas 1 = .ok (.iconst 1, 1) := dk_4 (dk_at dksX8_guestHas_0 1 rfl rfl)
theorem dX8_guestHas_2 : decode cX8_guestHas 2 = .ok (.if_icmp .ne 5, 3) := dk_160 0 5 (dk_at dksX8_guestHas_0 2 rfl rfl)
theorem dX8_guestHas_5 : decode cX8_guestHas 5 = .ok (.iconst 0, 1) := dk_3 (dk_at dksX8_guestHas_0 5 rfl rfl)
theorem dX8_guestHas_6 : decode cX8_guestHas 6 = .ok (.ireturn, 1) := dk_172 (dk_at dksX8_guestHas_0 6 rfl rfl)
theorem dX8_guestHas_7 : decode cX8_guestHas 7 = .ok (.iload_n 3, 1) := dk_29 (dk_at dksX8_guestHas_0 7 rfl rfl)
theorem dX8_guestHas_8 : decode cX8_guestHas 8 = .ok (.ifCond .ne 13, 3) := dk_154 0 13 (dk_at dksX8_guestHas_0 8 rfl rfl)
theorem dX8_guestHas_11 : decode cX8_guestHas 11 = .ok (.aload_n 0, 1) := dk_42 (dk_at dksX8_guestHas_0 11 rfl rfl)
theorem dX8_guestHas_12 : decode cX8_guestHas 12 = .ok (.iconst 1, 1) := dk_4 (dk_at dksX8_guestHas_0 12 rfl rfl)
theorem dX8_guestHas_13 : decode cX8_guestHas 13 = .ok (.iload_n 1, 1) := dk_27 (dk_at dksX8_guestHas_0 13 rfl rfl)
theorem dX8_guestHas_14 : decode cX8_guestHas 14 = .ok (.invokevirtual 381, 3) := dk_182 1 125 (dk_at dksX8_guestHas_0 14 rfl rfl)
theorem dX8_guestHas_17 : decode cX8_guestHas 17 = .ok (.ineg, 1) := dk_116 (dk_at dksX8_guestHas_0 17 rfl rfl)
theorem dX8_guestHas_18 : decode cX8_guestHas 18 = .ok (.goto 9, 3) := dk_167 0 9 (dk_at dksX8_guestHas_0 18 rfl rfl)
theorem dX8_guestHas_21 : decode cX8_guestHas 21 = .ok (.aload_n 0, 1) := dk_42 (dk_at dksX8_guestHas_0 21 rfl rfl)
theorem dX8_guestHas_22 : decode cX8_guestHas 22 = .ok (.iload_n 1, 1) := dk_27 (dk_at dksX8_guestHas_0 22 rfl rfl)
theorem dX8_guestHas_23 : decode cX8_guestHas 23 = .ok (.iconst 0, 1) := dk_3 (dk_at dksX8_guestHas_0 23 rfl rfl)
theorem dX8_guestHas_24 : decode cX8_guestHas 24 = .ok (.invokevirtual 78, 3) := dk_182 0 78 (dk_at dksX8_guestHas_1 0 rfl rfl)
theorem dX8_guestHas_27 : decode cX8_guestHas 27 = .ok (.ireturn, 1) := dk_172 (dk_at dksX8_guestHas_1 3 rfl rfl)
abbrev cX8_hostHas : ByteArray := prog_19_method_147_code
def yX8_hostHas : MethodName := ⟨RX8, "hostHas", "(III)I"⟩
def dkwX8_hostHas_1 : List UInt8 := [167, 0, 9, 42, 27, 182, 1, 149, 116, 172]
abbrev dktX8_hostHas_1 : List UInt8 := dkwX8_hostHas_1 ++ []
def dkwX8_hostHas_0 : List UInt8 := [28, 4, 160, 0, 13, 29, 154, 0, 7, 2, 167, 0, 4, 4, 172, 29, 154, 0, 11, 42, 27, 182, 1, 164]
abbrev dktX8_hostHas_0 : List UInt8 := dkwX8_hostHas_0 ++ dktX8_hostHas_1
theorem dksX8_hostHas_0 : cX8_hostHas.data.toList.drop 0 = dktX8_hostHas_0 := by decide +kernel
theorem dksX8_hostHas_1 : cX8_hostHas.data.toList.drop 24 = dktX8_hostHas_1 := dk_seg dksX8_hostHas_0 24 rfl rfl
theorem dX8_hostHas_0 : decode cX8_hostHas 0 = .ok (.iload_n 2, 1) := dk_28 (dk_at dksX8_hostHas_0 0 rfl rfl)
theorem dX8_hostHas_1 : decode cX8_hostHas 1 = .ok (.iconst 1, 1) := dk_4 (dk_at dksX8_hostHas_0 1 rfl rfl)
theorem dX8_hostHas_2 : decode cX8_hostHas 2 = .ok (.if_icmp .ne 13, 3) := dk_160 0 13 (dk_at dksX8_hostHas_0 2 rfl rfl)
theorem dX8_hostHas_5 : decode cX8_hostHas 5 = .ok (.iload_n 3, 1) := dk_29 (dk_at dksX8_hostHas_0 5 rfl rfl)
theorem dX8_hostHas_6 : decode cX8_hostHas 6 = .ok (.ifCond .ne 7, 3) := dk_154 0 7 (dk_at dksX8_hostHas_0 6 rfl rfl)
theorem dX8_hostHas_9 : decode cX8_hostHas 9 = .ok (.iconst (-1), 1) := dk_2 (dk_at dksX8_hostHas_0 9 rfl rfl)
theorem dX8_hostHas_10 : decode cX8_hostHas 10 = .ok (.goto 4, 3) := dk_167 0 4 (dk_at dksX8_hostHas_0 10 rfl rfl)
theorem dX8_hostHas_13 : decode cX8_hostHas 13 = .ok (.iconst 1, 1) := dk_4 (dk_at dksX8_hostHas_0 13 rfl rfl)
theorem dX8_hostHas_14 : decode cX8_hostHas 14 = .ok (.ireturn, 1) := dk_172 (dk_at dksX8_hostHas_0 14 rfl rfl)
theorem dX8_hostHas_15 : decode cX8_hostHas 15 = .ok (.iload_n 3, 1) := dk_29 (dk_at dksX8_hostHas_0 15 rfl rfl)
theorem dX8_hostHas_16 : decode cX8_hostHas 16 = .ok (.ifCond .ne 11, 3) := dk_154 0 11 (dk_at dksX8_hostHas_0 16 rfl rfl)
theorem dX8_hostHas_19 : decode cX8_hostHas 19 = .ok (.aload_n 0, 1) := dk_42 (dk_at dksX8_hostHas_0 19 rfl rfl)
theorem dX8_hostHas_20 : decode cX8_hostHas 20 = .ok (.iload_n 1, 1) := dk_27 (dk_at dksX8_hostHas_0 20 rfl rfl)
theorem dX8_hostHas_21 : decode cX8_hostHas 21 = .ok (.invokevirtual 420, 3) := dk_182 1 164 (dk_at dksX8_hostHas_0 21 rfl rfl)
theorem dX8_hostHas_24 : decode cX8_hostHas 24 = .ok (.goto 9, 3) := dk_167 0 9 (dk_at dksX8_hostHas_1 0 rfl rfl)
theorem dX8_hostHas_27 : decode cX8_hostHas 27 = .ok (.aload_n 0, 1) := dk_42 (dk_at dksX8_hostHas_1 3 rfl rfl)
theorem dX8_hostHas_28 : decode cX8_hostHas 28 = .ok (.iload_n 1, 1) := dk_27 (dk_at dksX8_hostHas_1 4 rfl rfl)
theorem dX8_hostHas_29 : decode cX8_hostHas 29 = .ok (.invokevirtual 405, 3) := dk_182 1 149 (dk_at dksX8_hostHas_1 5 rfl rfl)
theorem dX8_hostHas_32 : decode cX8_hostHas 32 = .ok (.ineg, 1) := dk_116 (dk_at dksX8_hostHas_1 8 rfl rfl)
theorem dX8_hostHas_33 : decode cX8_hostHas 33 = .ok (.ireturn, 1) := dk_172 (dk_at dksX8_hostHas_1 9 rfl rfl)
abbrev cX8_odds : ByteArray := prog_19_method_149_code
def yX8_odds : MethodName := ⟨RX8, "odds", "(II)I"⟩
def dkwX8_odds_8 : List UInt8 := [167, 255, 235, 20, 2, 30, 22, 5, 105, 33, 109, 136, 172]
abbrev dktX8_odds_8 : List UInt8 := dkwX8_odds_8 ++ []
def dkwX8_odds_7 : List UInt8 := [28, 54, 7, 21, 7, 8, 163, 0, 21, 22, 5, 42, 180, 0, 61, 21, 7, 47, 97, 55, 5, 132, 7, 1]
abbrev dktX8_odds_7 : List UInt8 := dkwX8_odds_7 ++ dktX8_odds_8
def dkwX8_odds_6 : List UInt8 := [105, 97, 80, 132, 6, 255, 167, 255, 194, 33, 20, 2, 28, 105, 66, 132, 5, 1, 167, 255, 173, 9, 55, 5]
abbrev dktX8_odds_6 : List UInt8 := dkwX8_odds_6 ++ dktX8_odds_7
def dkwX8_odds_5 : List UInt8 := [154, 0, 7, 9, 167, 0, 21, 42, 180, 0, 61, 21, 6, 4, 100, 47, 42, 180, 0, 13, 16, 7, 46, 133]
abbrev dktX8_odds_5 : List UInt8 := dkwX8_odds_5 ++ dktX8_odds_6
def dkwX8_odds_4 : List UInt8 := [21, 6, 42, 180, 0, 61, 21, 6, 47, 16, 100, 42, 180, 0, 13, 16, 7, 46, 100, 133, 105, 21, 6]
abbrev dktX8_odds_4 : List UInt8 := dkwX8_odds_4 ++ dktX8_odds_5
def dkwX8_odds_3 : List UInt8 := [167, 255, 230, 3, 54, 5, 21, 5, 27, 162, 0, 83, 8, 54, 6, 21, 6, 155, 0, 63, 42, 180, 0, 61]
abbrev dktX8_odds_3 : List UInt8 := dkwX8_odds_3 ++ dktX8_odds_4
def dkwX8_odds_2 : List UInt8 := [163, 0, 26, 42, 180, 0, 61, 21, 5, 21, 5, 154, 0, 7, 10, 167, 0, 4, 9, 80, 132, 5, 1]
abbrev dktX8_odds_2 : List UInt8 := dkwX8_odds_2 ++ dktX8_odds_3
def dkwX8_odds_1 : List UInt8 := [4, 167, 0, 4, 3, 4, 182, 1, 24, 153, 0, 5, 3, 172, 10, 66, 3, 54, 5, 21, 5, 8]
abbrev dktX8_odds_1 : List UInt8 := dkwX8_odds_1 ++ dktX8_odds_2
def dkwX8_odds_0 : List UInt8 := [42, 3, 181, 0, 3, 42, 27, 3, 8, 184, 0, 88, 153, 0, 12, 28, 3, 8, 184, 0, 88, 154, 0, 7]
abbrev dktX8_odds_0 : List UInt8 := dkwX8_odds_0 ++ dktX8_odds_1
theorem dksX8_odds_0 : cX8_odds.data.toList.drop 0 = dktX8_odds_0 := by decide +kernel
theorem dksX8_odds_1 : cX8_odds.data.toList.drop 24 = dktX8_odds_1 := dk_seg dksX8_odds_0 24 rfl rfl
theorem dksX8_odds_2 : cX8_odds.data.toList.drop 46 = dktX8_odds_2 := dk_seg dksX8_odds_1 22 rfl rfl
theorem dksX8_odds_3 : cX8_odds.data.toList.drop 69 = dktX8_odds_3 := dk_seg dksX8_odds_2 23 rfl rfl
theorem dksX8_odds_4 : cX8_odds.data.toList.drop 93 = dktX8_odds_4 := dk_seg dksX8_odds_3 24 rfl rfl
theorem dksX8_odds_5 : cX8_odds.data.toList.drop 116 = dktX8_odds_5 := dk_seg dksX8_odds_4 23 rfl rfl
theorem dksX8_odds_6 : cX8_odds.data.toList.drop 140 = dktX8_odds_6 := dk_seg dksX8_odds_5 24 rfl rfl
theorem dksX8_odds_7 : cX8_odds.data.toList.drop 164 = dktX8_odds_7 := dk_seg dksX8_odds_6 24 rfl rfl
theorem dksX8_odds_8 : cX8_odds.data.toList.drop 188 = dktX8_odds_8 := dk_seg dksX8_odds_7 24 rfl rfl
theorem dX8_odds_0 : decode cX8_odds 0 = .ok (.aload_n 0, 1) := dk_42 (dk_at dksX8_odds_0 0 rfl rfl)
theorem dX8_odds_1 : decode cX8_odds 1 = .ok (.iconst 0, 1) := dk_3 (dk_at dksX8_odds_0 1 rfl rfl)
theorem dX8_odds_2 : decode cX8_odds 2 = .ok (.putfield 3, 3) := dk_181 0 3 (dk_at dksX8_odds_0 2 rfl rfl)
theorem dX8_odds_5 : decode cX8_odds 5 = .ok (.aload_n 0, 1) := dk_42 (dk_at dksX8_odds_0 5 rfl rfl)
theorem dX8_odds_6 : decode cX8_odds 6 = .ok (.iload_n 1, 1) := dk_27 (dk_at dksX8_odds_0 6 rfl rfl)
theorem dX8_odds_7 : decode cX8_odds 7 = .ok (.iconst 0, 1) := dk_3 (dk_at dksX8_odds_0 7 rfl rfl)
theorem dX8_odds_8 : decode cX8_odds 8 = .ok (.iconst 5, 1) := dk_8 (dk_at dksX8_odds_0 8 rfl rfl)
theorem dX8_odds_9 : decode cX8_odds 9 = .ok (.invokestatic 88, 3) := dk_184 0 88 (dk_at dksX8_odds_0 9 rfl rfl)
theorem dX8_odds_12 : decode cX8_odds 12 = .ok (.ifCond .eq 12, 3) := dk_153 0 12 (dk_at dksX8_odds_0 12 rfl rfl)
theorem dX8_odds_15 : decode cX8_odds 15 = .ok (.iload_n 2, 1) := dk_28 (dk_at dksX8_odds_0 15 rfl rfl)
theorem dX8_odds_16 : decode cX8_odds 16 = .ok (.iconst 0, 1) := dk_3 (dk_at dksX8_odds_0 16 rfl rfl)
theorem dX8_odds_17 : decode cX8_odds 17 = .ok (.iconst 5, 1) := dk_8 (dk_at dksX8_odds_0 17 rfl rfl)
theorem dX8_odds_18 : decode cX8_odds 18 = .ok (.invokestatic 88, 3) := dk_184 0 88 (dk_at dksX8_odds_0 18 rfl rfl)
theorem dX8_odds_21 : decode cX8_odds 21 = .ok (.ifCond .ne 7, 3) := dk_154 0 7 (dk_at dksX8_odds_0 21 rfl rfl)
theorem dX8_odds_24 : decode cX8_odds 24 = .ok (.iconst 1, 1) := dk_4 (dk_at dksX8_odds_1 0 rfl rfl)
theorem dX8_odds_25 : decode cX8_odds 25 = .ok (.goto 4, 3) := dk_167 0 4 (dk_at dksX8_odds_1 1 rfl rfl)
theorem dX8_odds_28 : decode cX8_odds 28 = .ok (.iconst 0, 1) := dk_3 (dk_at dksX8_odds_1 4 rfl rfl)
theorem dX8_odds_29 : decode cX8_odds 29 = .ok (.iconst 1, 1) := dk_4 (dk_at dksX8_odds_1 5 rfl rfl)
theorem dX8_odds_30 : decode cX8_odds 30 = .ok (.invokevirtual 280, 3) := dk_182 1 24 (dk_at dksX8_odds_1 6 rfl rfl)
theorem dX8_odds_33 : decode cX8_odds 33 = .ok (.ifCond .eq 5, 3) := dk_153 0 5 (dk_at dksX8_odds_1 9 rfl rfl)
theorem dX8_odds_36 : decode cX8_odds 36 = .ok (.iconst 0, 1) := dk_3 (dk_at dksX8_odds_1 12 rfl rfl)
theorem dX8_odds_37 : decode cX8_odds 37 = .ok (.ireturn, 1) := dk_172 (dk_at dksX8_odds_1 13 rfl rfl)
theorem dX8_odds_38 : decode cX8_odds 38 = .ok (.lconst 1, 1) := dk_10 (dk_at dksX8_odds_1 14 rfl rfl)
theorem dX8_odds_39 : decode cX8_odds 39 = .ok (.lstore_n 3, 1) := dk_66 (dk_at dksX8_odds_1 15 rfl rfl)
theorem dX8_odds_40 : decode cX8_odds 40 = .ok (.iconst 0, 1) := dk_3 (dk_at dksX8_odds_1 16 rfl rfl)
theorem dX8_odds_41 : decode cX8_odds 41 = .ok (.istore 5, 2) := dk_54 5 (dk_at dksX8_odds_1 17 rfl rfl)
theorem dX8_odds_43 : decode cX8_odds 43 = .ok (.iload 5, 2) := dk_21 5 (dk_at dksX8_odds_1 19 rfl rfl)
theorem dX8_odds_45 : decode cX8_odds 45 = .ok (.iconst 5, 1) := dk_8 (dk_at dksX8_odds_1 21 rfl rfl)
theorem dX8_odds_46 : decode cX8_odds 46 = .ok (.if_icmp .gt 26, 3) := dk_163 0 26 (dk_at dksX8_odds_2 0 rfl rfl)
theorem dX8_odds_49 : decode cX8_odds 49 = .ok (.aload_n 0, 1) := dk_42 (dk_at dksX8_odds_2 3 rfl rfl)
theorem dX8_odds_50 : decode cX8_odds 50 = .ok (.getfield 61, 3) := dk_180 0 61 (dk_at dksX8_odds_2 4 rfl rfl)
theorem dX8_odds_53 : decode cX8_odds 53 = .ok (.iload 5, 2) := dk_21 5 (dk_at dksX8_odds_2 7 rfl rfl)
theorem dX8_odds_55 : decode cX8_odds 55 = .ok (.iload 5, 2) := dk_21 5 (dk_at dksX8_odds_2 9 rfl rfl)
theorem dX8_odds_57 : decode cX8_odds 57 = .ok (.ifCond .ne 7, 3) := dk_154 0 7 (dk_at dksX8_odds_2 11 rfl rfl)
theorem dX8_odds_60 : decode cX8_odds 60 = .ok (.lconst 1, 1) := dk_10 (dk_at dksX8_odds_2 14 rfl rfl)
theorem dX8_odds_61 : decode cX8_odds 61 = .ok (.goto 4, 3) := dk_167 0 4 (dk_at dksX8_odds_2 15 rfl rfl)
theorem dX8_odds_64 : decode cX8_odds 64 = .ok (.lconst 0, 1) := dk_9 (dk_at dksX8_odds_2 18 rfl rfl)
theorem dX8_odds_65 : decode cX8_odds 65 = .ok (.lastore, 1) := dk_80 (dk_at dksX8_odds_2 19 rfl rfl)
theorem dX8_odds_66 : decode cX8_odds 66 = .ok (.iinc 5 1, 3) := dk_132 5 1 (dk_at dksX8_odds_2 20 rfl rfl)
theorem dX8_odds_69 : decode cX8_odds 69 = .ok (.goto (-26), 3) := dk_167 255 230 (dk_at dksX8_odds_3 0 rfl rfl)
theorem dX8_odds_72 : decode cX8_odds 72 = .ok (.iconst 0, 1) := dk_3 (dk_at dksX8_odds_3 3 rfl rfl)
theorem dX8_odds_73 : decode cX8_odds 73 = .ok (.istore 5, 2) := dk_54 5 (dk_at dksX8_odds_3 4 rfl rfl)
theorem dX8_odds_75 : decode cX8_odds 75 = .ok (.iload 5, 2) := dk_21 5 (dk_at dksX8_odds_3 6 rfl rfl)
theorem dX8_odds_77 : decode cX8_odds 77 = .ok (.iload_n 1, 1) := dk_27 (dk_at dksX8_odds_3 8 rfl rfl)
theorem dX8_odds_78 : decode cX8_odds 78 = .ok (.if_icmp .ge 83, 3) := dk_162 0 83 (dk_at dksX8_odds_3 9 rfl rfl)
theorem dX8_odds_81 : decode cX8_odds 81 = .ok (.iconst 5, 1) := dk_8 (dk_at dksX8_odds_3 12 rfl rfl)
theorem dX8_odds_82 : decode cX8_odds 82 = .ok (.istore 6, 2) := dk_54 6 (dk_at dksX8_odds_3 13 rfl rfl)
theorem dX8_odds_84 : decode cX8_odds 84 = .ok (.iload 6, 2) := dk_21 6 (dk_at dksX8_odds_3 15 rfl rfl)
theorem dX8_odds_86 : decode cX8_odds 86 = .ok (.ifCond .lt 63, 3) := dk_155 0 63 (dk_at dksX8_odds_3 17 rfl rfl)
theorem dX8_odds_89 : decode cX8_odds 89 = .ok (.aload_n 0, 1) := dk_42 (dk_at dksX8_odds_3 20 rfl rfl)
theorem dX8_odds_90 : decode cX8_odds 90 = .ok (.getfield 61, 3) := dk_180 0 61 (dk_at dksX8_odds_3 21 rfl rfl)
theorem dX8_odds_93 : decode cX8_odds 93 = .ok (.iload 6, 2) := dk_21 6 (dk_at dksX8_odds_4 0 rfl rfl)
theorem dX8_odds_95 : decode cX8_odds 95 = .ok (.aload_n 0, 1) := dk_42 (dk_at dksX8_odds_4 2 rfl rfl)
theorem dX8_odds_96 : decode cX8_odds 96 = .ok (.getfield 61, 3) := dk_180 0 61 (dk_at dksX8_odds_4 3 rfl rfl)
theorem dX8_odds_99 : decode cX8_odds 99 = .ok (.iload 6, 2) := dk_21 6 (dk_at dksX8_odds_4 6 rfl rfl)
theorem dX8_odds_101 : decode cX8_odds 101 = .ok (.laload, 1) := dk_47 (dk_at dksX8_odds_4 8 rfl rfl)
theorem dX8_odds_102 : decode cX8_odds 102 = .ok (.bipush 100, 2) := dk_16 100 (dk_at dksX8_odds_4 9 rfl rfl)
theorem dX8_odds_104 : decode cX8_odds 104 = .ok (.aload_n 0, 1) := dk_42 (dk_at dksX8_odds_4 11 rfl rfl)
theorem dX8_odds_105 : decode cX8_odds 105 = .ok (.getfield 13, 3) := dk_180 0 13 (dk_at dksX8_odds_4 12 rfl rfl)
theorem dX8_odds_108 : decode cX8_odds 108 = .ok (.bipush 7, 2) := dk_16 7 (dk_at dksX8_odds_4 15 rfl rfl)
theorem dX8_odds_110 : decode cX8_odds 110 = .ok (.iaload, 1) := dk_46 (dk_at dksX8_odds_4 17 rfl rfl)
theorem dX8_odds_111 : decode cX8_odds 111 = .ok (.isub, 1) := dk_100 (dk_at dksX8_odds_4 18 rfl rfl)
theorem dX8_odds_112 : decode cX8_odds 112 = .ok (.i2l, 1) := dk_133 (dk_at dksX8_odds_4 19 rfl rfl)
theorem dX8_odds_113 : decode cX8_odds 113 = .ok (.lmul, 1) := dk_105 (dk_at dksX8_odds_4 20 rfl rfl)
theorem dX8_odds_114 : decode cX8_odds 114 = .ok (.iload 6, 2) := dk_21 6 (dk_at dksX8_odds_4 21 rfl rfl)
theorem dX8_odds_116 : decode cX8_odds 116 = .ok (.ifCond .ne 7, 3) := dk_154 0 7 (dk_at dksX8_odds_5 0 rfl rfl)
theorem dX8_odds_119 : decode cX8_odds 119 = .ok (.lconst 0, 1) := dk_9 (dk_at dksX8_odds_5 3 rfl rfl)
theorem dX8_odds_120 : decode cX8_odds 120 = .ok (.goto 21, 3) := dk_167 0 21 (dk_at dksX8_odds_5 4 rfl rfl)
theorem dX8_odds_123 : decode cX8_odds 123 = .ok (.aload_n 0, 1) := dk_42 (dk_at dksX8_odds_5 7 rfl rfl)
theorem dX8_odds_124 : decode cX8_odds 124 = .ok (.getfield 61, 3) := dk_180 0 61 (dk_at dksX8_odds_5 8 rfl rfl)
theorem dX8_odds_127 : decode cX8_odds 127 = .ok (.iload 6, 2) := dk_21 6 (dk_at dksX8_odds_5 11 rfl rfl)
theorem dX8_odds_129 : decode cX8_odds 129 = .ok (.iconst 1, 1) := dk_4 (dk_at dksX8_odds_5 13 rfl rfl)
theorem dX8_odds_130 : decode cX8_odds 130 = .ok (.isub, 1) := dk_100 (dk_at dksX8_odds_5 14 rfl rfl)
theorem dX8_odds_131 : decode cX8_odds 131 = .ok (.laload, 1) := dk_47 (dk_at dksX8_odds_5 15 rfl rfl)
theorem dX8_odds_132 : decode cX8_odds 132 = .ok (.aload_n 0, 1) := dk_42 (dk_at dksX8_odds_5 16 rfl rfl)
theorem dX8_odds_133 : decode cX8_odds 133 = .ok (.getfield 13, 3) := dk_180 0 13 (dk_at dksX8_odds_5 17 rfl rfl)
theorem dX8_odds_136 : decode cX8_odds 136 = .ok (.bipush 7, 2) := dk_16 7 (dk_at dksX8_odds_5 20 rfl rfl)
theorem dX8_odds_138 : decode cX8_odds 138 = .ok (.iaload, 1) := dk_46 (dk_at dksX8_odds_5 22 rfl rfl)
theorem dX8_odds_139 : decode cX8_odds 139 = .ok (.i2l, 1) := dk_133 (dk_at dksX8_odds_5 23 rfl rfl)
theorem dX8_odds_140 : decode cX8_odds 140 = .ok (.lmul, 1) := dk_105 (dk_at dksX8_odds_6 0 rfl rfl)
theorem dX8_odds_141 : decode cX8_odds 141 = .ok (.ladd, 1) := dk_97 (dk_at dksX8_odds_6 1 rfl rfl)
theorem dX8_odds_142 : decode cX8_odds 142 = .ok (.lastore, 1) := dk_80 (dk_at dksX8_odds_6 2 rfl rfl)
theorem dX8_odds_143 : decode cX8_odds 143 = .ok (.iinc 6 (-1), 3) := dk_132 6 255 (dk_at dksX8_odds_6 3 rfl rfl)
theorem dX8_odds_146 : decode cX8_odds 146 = .ok (.goto (-62), 3) := dk_167 255 194 (dk_at dksX8_odds_6 6 rfl rfl)
theorem dX8_odds_149 : decode cX8_odds 149 = .ok (.lload_n 3, 1) := dk_33 (dk_at dksX8_odds_6 9 rfl rfl)
theorem dX8_odds_150 : decode cX8_odds 150 = .ok (.ldc2_w 540, 3) := dk_20 2 28 (dk_at dksX8_odds_6 10 rfl rfl)
theorem dX8_odds_153 : decode cX8_odds 153 = .ok (.lmul, 1) := dk_105 (dk_at dksX8_odds_6 13 rfl rfl)
theorem dX8_odds_154 : decode cX8_odds 154 = .ok (.lstore_n 3, 1) := dk_66 (dk_at dksX8_odds_6 14 rfl rfl)
theorem dX8_odds_155 : decode cX8_odds 155 = .ok (.iinc 5 1, 3) := dk_132 5 1 (dk_at dksX8_odds_6 15 rfl rfl)
theorem dX8_odds_158 : decode cX8_odds 158 = .ok (.goto (-83), 3) := dk_167 255 173 (dk_at dksX8_odds_6 18 rfl rfl)
theorem dX8_odds_161 : decode cX8_odds 161 = .ok (.lconst 0, 1) := dk_9 (dk_at dksX8_odds_6 21 rfl rfl)
theorem dX8_odds_162 : decode cX8_odds 162 = .ok (.lstore 5, 2) := dk_55 5 (dk_at dksX8_odds_6 22 rfl rfl)
theorem dX8_odds_164 : decode cX8_odds 164 = .ok (.iload_n 2, 1) := dk_28 (dk_at dksX8_odds_7 0 rfl rfl)
theorem dX8_odds_165 : decode cX8_odds 165 = .ok (.istore 7, 2) := dk_54 7 (dk_at dksX8_odds_7 1 rfl rfl)
theorem dX8_odds_167 : decode cX8_odds 167 = .ok (.iload 7, 2) := dk_21 7 (dk_at dksX8_odds_7 3 rfl rfl)
theorem dX8_odds_169 : decode cX8_odds 169 = .ok (.iconst 5, 1) := dk_8 (dk_at dksX8_odds_7 5 rfl rfl)
theorem dX8_odds_170 : decode cX8_odds 170 = .ok (.if_icmp .gt 21, 3) := dk_163 0 21 (dk_at dksX8_odds_7 6 rfl rfl)
theorem dX8_odds_173 : decode cX8_odds 173 = .ok (.lload 5, 2) := dk_22 5 (dk_at dksX8_odds_7 9 rfl rfl)
theorem dX8_odds_175 : decode cX8_odds 175 = .ok (.aload_n 0, 1) := dk_42 (dk_at dksX8_odds_7 11 rfl rfl)
theorem dX8_odds_176 : decode cX8_odds 176 = .ok (.getfield 61, 3) := dk_180 0 61 (dk_at dksX8_odds_7 12 rfl rfl)
theorem dX8_odds_179 : decode cX8_odds 179 = .ok (.iload 7, 2) := dk_21 7 (dk_at dksX8_odds_7 15 rfl rfl)
theorem dX8_odds_181 : decode cX8_odds 181 = .ok (.laload, 1) := dk_47 (dk_at dksX8_odds_7 17 rfl rfl)
theorem dX8_odds_182 : decode cX8_odds 182 = .ok (.ladd, 1) := dk_97 (dk_at dksX8_odds_7 18 rfl rfl)
theorem dX8_odds_183 : decode cX8_odds 183 = .ok (.lstore 5, 2) := dk_55 5 (dk_at dksX8_odds_7 19 rfl rfl)
theorem dX8_odds_185 : decode cX8_odds 185 = .ok (.iinc 7 1, 3) := dk_132 7 1 (dk_at dksX8_odds_7 21 rfl rfl)
theorem dX8_odds_188 : decode cX8_odds 188 = .ok (.goto (-21), 3) := dk_167 255 235 (dk_at dksX8_odds_8 0 rfl rfl)
theorem dX8_odds_191 : decode cX8_odds 191 = .ok (.ldc2_w 542, 3) := dk_20 2 30 (dk_at dksX8_odds_8 3 rfl rfl)
theorem dX8_odds_194 : decode cX8_odds 194 = .ok (.lload 5, 2) := dk_22 5 (dk_at dksX8_odds_8 6 rfl rfl)
theorem dX8_odds_196 : decode cX8_odds 196 = .ok (.lmul, 1) := dk_105 (dk_at dksX8_odds_8 8 rfl rfl)
theorem dX8_odds_197 : decode cX8_odds 197 = .ok (.lload_n 3, 1) := dk_33 (dk_at dksX8_odds_8 9 rfl rfl)
theorem dX8_odds_198 : decode cX8_odds 198 = .ok (.ldiv, 1) := dk_109 (dk_at dksX8_odds_8 10 rfl rfl)
theorem dX8_odds_199 : decode cX8_odds 199 = .ok (.l2i, 1) := dk_136 (dk_at dksX8_odds_8 11 rfl rfl)
theorem dX8_odds_200 : decode cX8_odds 200 = .ok (.ireturn, 1) := dk_172 (dk_at dksX8_odds_8 12 rfl rfl)
abbrev cX8_most : ByteArray := prog_19_method_151_code
def yX8_most : MethodName := ⟨RX8, "most", "(I)I"⟩
def dkwX8_most_3 : List UInt8 := [132, 3, 1, 167, 255, 219, 28, 172]
abbrev dktX8_most_3 : List UInt8 := dkwX8_most_3 ++ []
def dkwX8_most_2 : List UInt8 := [159, 0, 18, 42, 27, 29, 182, 2, 32, 42, 27, 28, 182, 2, 32, 164, 0, 7, 29, 167, 0, 4, 28, 61]
abbrev dktX8_most_2 : List UInt8 := dkwX8_most_2 ++ dktX8_most_3
def dkwX8_most_1 : List UInt8 := [153, 0, 5, 3, 172, 42, 182, 1, 167, 2, 61, 3, 62, 29, 42, 182, 0, 84, 162, 0, 35, 28, 2]
abbrev dktX8_most_1 : List UInt8 := dkwX8_most_1 ++ dktX8_most_2
def dkwX8_most_0 : List UInt8 := [42, 3, 181, 0, 3, 42, 27, 3, 5, 184, 0, 88, 154, 0, 7, 4, 167, 0, 4, 3, 4, 182, 1, 24]
abbrev dktX8_most_0 : List UInt8 := dkwX8_most_0 ++ dktX8_most_1
theorem dksX8_most_0 : cX8_most.data.toList.drop 0 = dktX8_most_0 := by decide +kernel
theorem dksX8_most_1 : cX8_most.data.toList.drop 24 = dktX8_most_1 := dk_seg dksX8_most_0 24 rfl rfl
theorem dksX8_most_2 : cX8_most.data.toList.drop 47 = dktX8_most_2 := dk_seg dksX8_most_1 23 rfl rfl
theorem dksX8_most_3 : cX8_most.data.toList.drop 71 = dktX8_most_3 := dk_seg dksX8_most_2 24 rfl rfl
theorem dX8_most_0 : decode cX8_most 0 = .ok (.aload_n 0, 1) := dk_42 (dk_at dksX8_most_0 0 rfl rfl)
theorem dX8_most_1 : decode cX8_most 1 = .ok (.iconst 0, 1) := dk_3 (dk_at dksX8_most_0 1 rfl rfl)
theorem dX8_most_2 : decode cX8_most 2 = .ok (.putfield 3, 3) := dk_181 0 3 (dk_at dksX8_most_0 2 rfl rfl)
theorem dX8_most_5 : decode cX8_most 5 = .ok (.aload_n 0, 1) := dk_42 (dk_at dksX8_most_0 5 rfl rfl)
theorem dX8_most_6 : decode cX8_most 6 = .ok (.iload_n 1, 1) := dk_27 (dk_at dksX8_most_0 6 rfl rfl)
theorem dX8_most_7 : decode cX8_most 7 = .ok (.iconst 0, 1) := dk_3 (dk_at dksX8_most_0 7 rfl rfl)
theorem dX8_most_8 : decode cX8_most 8 = .ok (.iconst 2, 1) := dk_5 (dk_at dksX8_most_0 8 rfl rfl)
theorem dX8_most_9 : decode cX8_most 9 = .ok (.invokestatic 88, 3) := dk_184 0 88 (dk_at dksX8_most_0 9 rfl rfl)
theorem dX8_most_12 : decode cX8_most 12 = .ok (.ifCond .ne 7, 3) := dk_154 0 7 (dk_at dksX8_most_0 12 rfl rfl)
theorem dX8_most_15 : decode cX8_most 15 = .ok (.iconst 1, 1) := dk_4 (dk_at dksX8_most_0 15 rfl rfl)
theorem dX8_most_16 : decode cX8_most 16 = .ok (.goto 4, 3) := dk_167 0 4 (dk_at dksX8_most_0 16 rfl rfl)
theorem dX8_most_19 : decode cX8_most 19 = .ok (.iconst 0, 1) := dk_3 (dk_at dksX8_most_0 19 rfl rfl)
theorem dX8_most_20 : decode cX8_most 20 = .ok (.iconst 1, 1) := dk_4 (dk_at dksX8_most_0 20 rfl rfl)
theorem dX8_most_21 : decode cX8_most 21 = .ok (.invokevirtual 280, 3) := dk_182 1 24 (dk_at dksX8_most_0 21 rfl rfl)
theorem dX8_most_24 : decode cX8_most 24 = .ok (.ifCond .eq 5, 3) := dk_153 0 5 (dk_at dksX8_most_1 0 rfl rfl)
theorem dX8_most_27 : decode cX8_most 27 = .ok (.iconst 0, 1) := dk_3 (dk_at dksX8_most_1 3 rfl rfl)
theorem dX8_most_28 : decode cX8_most 28 = .ok (.ireturn, 1) := dk_172 (dk_at dksX8_most_1 4 rfl rfl)
theorem dX8_most_29 : decode cX8_most 29 = .ok (.aload_n 0, 1) := dk_42 (dk_at dksX8_most_1 5 rfl rfl)
theorem dX8_most_30 : decode cX8_most 30 = .ok (.invokevirtual 423, 3) := dk_182 1 167 (dk_at dksX8_most_1 6 rfl rfl)
theorem dX8_most_33 : decode cX8_most 33 = .ok (.iconst (-1), 1) := dk_2 (dk_at dksX8_most_1 9 rfl rfl)
theorem dX8_most_34 : decode cX8_most 34 = .ok (.istore_n 2, 1) := dk_61 (dk_at dksX8_most_1 10 rfl rfl)
theorem dX8_most_35 : decode cX8_most 35 = .ok (.iconst 0, 1) := dk_3 (dk_at dksX8_most_1 11 rfl rfl)
theorem dX8_most_36 : decode cX8_most 36 = .ok (.istore_n 3, 1) := dk_62 (dk_at dksX8_most_1 12 rfl rfl)
theorem dX8_most_37 : decode cX8_most 37 = .ok (.iload_n 3, 1) := dk_29 (dk_at dksX8_most_1 13 rfl rfl)
theorem dX8_most_38 : decode cX8_most 38 = .ok (.aload_n 0, 1) := dk_42 (dk_at dksX8_most_1 14 rfl rfl)
theorem dX8_most_39 : decode cX8_most 39 = .ok (.invokevirtual 84, 3) := dk_182 0 84 (dk_at dksX8_most_1 15 rfl rfl)
theorem dX8_most_42 : decode cX8_most 42 = .ok (.if_icmp .ge 35, 3) := dk_162 0 35 (dk_at dksX8_most_1 18 rfl rfl)
theorem dX8_most_45 : decode cX8_most 45 = .ok (.iload_n 2, 1) := dk_28 (dk_at dksX8_most_1 21 rfl rfl)
theorem dX8_most_46 : decode cX8_most 46 = .ok (.iconst (-1), 1) := dk_2 (dk_at dksX8_most_1 22 rfl rfl)
theorem dX8_most_47 : decode cX8_most 47 = .ok (.if_icmp .eq 18, 3) := dk_159 0 18 (dk_at dksX8_most_2 0 rfl rfl)
theorem dX8_most_50 : decode cX8_most 50 = .ok (.aload_n 0, 1) := dk_42 (dk_at dksX8_most_2 3 rfl rfl)
theorem dX8_most_51 : decode cX8_most 51 = .ok (.iload_n 1, 1) := dk_27 (dk_at dksX8_most_2 4 rfl rfl)
theorem dX8_most_52 : decode cX8_most 52 = .ok (.iload_n 3, 1) := dk_29 (dk_at dksX8_most_2 5 rfl rfl)
theorem dX8_most_53 : decode cX8_most 53 = .ok (.invokevirtual 544, 3) := dk_182 2 32 (dk_at dksX8_most_2 6 rfl rfl)
theorem dX8_most_56 : decode cX8_most 56 = .ok (.aload_n 0, 1) := dk_42 (dk_at dksX8_most_2 9 rfl rfl)
theorem dX8_most_57 : decode cX8_most 57 = .ok (.iload_n 1, 1) := dk_27 (dk_at dksX8_most_2 10 rfl rfl)
theorem dX8_most_58 : decode cX8_most 58 = .ok (.iload_n 2, 1) := dk_28 (dk_at dksX8_most_2 11 rfl rfl)
theorem dX8_most_59 : decode cX8_most 59 = .ok (.invokevirtual 544, 3) := dk_182 2 32 (dk_at dksX8_most_2 12 rfl rfl)
theorem dX8_most_62 : decode cX8_most 62 = .ok (.if_icmp .le 7, 3) := dk_164 0 7 (dk_at dksX8_most_2 15 rfl rfl)
theorem dX8_most_65 : decode cX8_most 65 = .ok (.iload_n 3, 1) := dk_29 (dk_at dksX8_most_2 18 rfl rfl)
theorem dX8_most_66 : decode cX8_most 66 = .ok (.goto 4, 3) := dk_167 0 4 (dk_at dksX8_most_2 19 rfl rfl)
theorem dX8_most_69 : decode cX8_most 69 = .ok (.iload_n 2, 1) := dk_28 (dk_at dksX8_most_2 22 rfl rfl)
theorem dX8_most_70 : decode cX8_most 70 = .ok (.istore_n 2, 1) := dk_61 (dk_at dksX8_most_2 23 rfl rfl)
theorem dX8_most_71 : decode cX8_most 71 = .ok (.iinc 3 1, 3) := dk_132 3 1 (dk_at dksX8_most_3 0 rfl rfl)
theorem dX8_most_74 : decode cX8_most 74 = .ok (.goto (-37), 3) := dk_167 255 219 (dk_at dksX8_most_3 3 rfl rfl)
theorem dX8_most_77 : decode cX8_most 77 = .ok (.iload_n 2, 1) := dk_28 (dk_at dksX8_most_3 6 rfl rfl)
theorem dX8_most_78 : decode cX8_most 78 = .ok (.ireturn, 1) := dk_172 (dk_at dksX8_most_3 7 rfl rfl)
abbrev cX8_amountOf : ByteArray := prog_19_method_150_code
def yX8_amountOf : MethodName := ⟨RX8, "amountOf", "(II)I"⟩
def dkwX8_amountOf_1 : List UInt8 := [167, 0, 8, 42, 28, 182, 1, 112, 172]
abbrev dktX8_amountOf_1 : List UInt8 := dkwX8_amountOf_1 ++ []
def dkwX8_amountOf_0 : List UInt8 := [27, 154, 0, 12, 42, 28, 3, 182, 0, 78, 167, 0, 21, 27, 4, 160, 0, 11, 42, 28, 182, 1, 149]
abbrev dktX8_amountOf_0 : List UInt8 := dkwX8_amountOf_0 ++ dktX8_amountOf_1
theorem dksX8_amountOf_0 : cX8_amountOf.data.toList.drop 0 = dktX8_amountOf_0 := by decide +kernel
theorem dksX8_amountOf_1 : cX8_amountOf.data.toList.drop 23 = dktX8_amountOf_1 := dk_seg dksX8_amountOf_0 23 rfl rfl
theorem dX8_amountOf_0 : decode cX8_amountOf 0 = .ok (.iload_n 1, 1) := dk_27 (dk_at dksX8_amountOf_0 0 rfl rfl)
theorem dX8_amountOf_1 : decode cX8_amountOf 1 = .ok (.ifCond .ne 12, 3) := dk_154 0 12 (dk_at dksX8_amountOf_0 1 rfl rfl)
theorem dX8_amountOf_4 : decode cX8_amountOf 4 = .ok (.aload_n 0, 1) := dk_42 (dk_at dksX8_amountOf_0 4 rfl rfl)
theorem dX8_amountOf_5 : decode cX8_amountOf 5 = .ok (.iload_n 2, 1) := dk_28 (dk_at dksX8_amountOf_0 5 rfl rfl)
theorem dX8_amountOf_6 : decode cX8_amountOf 6 = .ok (.iconst 0, 1) := dk_3 (dk_at dksX8_amountOf_0 6 rfl rfl)
theorem dX8_amountOf_7 : decode cX8_amountOf 7 = .ok (.invokevirtual 78, 3) := dk_182 0 78 (dk_at dksX8_amountOf_0 7 rfl rfl)
theorem dX8_amountOf_10 : decode cX8_amountOf 10 = .ok (.goto 21, 3) := dk_167 0 21 (dk_at dksX8_amountOf_0 10 rfl rfl)
theorem dX8_amountOf_13 : decode cX8_amountOf 13 = .ok (.iload_n 1, 1) := dk_27 (dk_at dksX8_amountOf_0 13 rfl rfl)
theorem dX8_amountOf_14 : decode cX8_amountOf 14 = .ok (.iconst 1, 1) := dk_4 (dk_at dksX8_amountOf_0 14 rfl rfl)
theorem dX8_amountOf_15 : decode cX8_amountOf 15 = .ok (.if_icmp .ne 11, 3) := dk_160 0 11 (dk_at dksX8_amountOf_0 15 rfl rfl)
theorem dX8_amountOf_18 : decode cX8_amountOf 18 = .ok (.aload_n 0, 1) := dk_42 (dk_at dksX8_amountOf_0 18 rfl rfl)
theorem dX8_amountOf_19 : decode cX8_amountOf 19 = .ok (.iload_n 2, 1) := dk_28 (dk_at dksX8_amountOf_0 19 rfl rfl)
theorem dX8_amountOf_20 : decode cX8_amountOf 20 = .ok (.invokevirtual 405, 3) := dk_182 1 149 (dk_at dksX8_amountOf_0 20 rfl rfl)
theorem dX8_amountOf_23 : decode cX8_amountOf 23 = .ok (.goto 8, 3) := dk_167 0 8 (dk_at dksX8_amountOf_1 0 rfl rfl)
theorem dX8_amountOf_26 : decode cX8_amountOf 26 = .ok (.aload_n 0, 1) := dk_42 (dk_at dksX8_amountOf_1 3 rfl rfl)
theorem dX8_amountOf_27 : decode cX8_amountOf 27 = .ok (.iload_n 2, 1) := dk_28 (dk_at dksX8_amountOf_1 4 rfl rfl)
theorem dX8_amountOf_28 : decode cX8_amountOf 28 = .ok (.invokevirtual 368, 3) := dk_182 1 112 (dk_at dksX8_amountOf_1 5 rfl rfl)
theorem dX8_amountOf_31 : decode cX8_amountOf 31 = .ok (.ireturn, 1) := dk_172 (dk_at dksX8_amountOf_1 8 rfl rfl)
abbrev cX8_twins : ByteArray := prog_19_method_153_code
def yX8_twins : MethodName := ⟨RX8, "twins", "()I"⟩
def dkwX8_twins_2 : List UInt8 := [132, 2, 1, 167, 255, 215, 27, 172]
abbrev dktX8_twins_2 : List UInt8 := dkwX8_twins_2 ++ []
def dkwX8_twins_1 : List UInt8 := [27, 42, 28, 29, 182, 2, 35, 153, 0, 7, 4, 167, 0, 4, 3, 96, 60, 132, 3, 1, 167, 255, 231]
abbrev dktX8_twins_1 : List UInt8 := dkwX8_twins_1 ++ dktX8_twins_2
def dkwX8_twins_0 : List UInt8 := [42, 3, 181, 0, 3, 3, 60, 3, 61, 28, 42, 182, 0, 84, 162, 0, 39, 3, 62, 29, 28, 162, 0, 26]
abbrev dktX8_twins_0 : List UInt8 := dkwX8_twins_0 ++ dktX8_twins_1
theorem dksX8_twins_0 : cX8_twins.data.toList.drop 0 = dktX8_twins_0 := by decide +kernel
theorem dksX8_twins_1 : cX8_twins.data.toList.drop 24 = dktX8_twins_1 := dk_seg dksX8_twins_0 24 rfl rfl
theorem dksX8_twins_2 : cX8_twins.data.toList.drop 47 = dktX8_twins_2 := dk_seg dksX8_twins_1 23 rfl rfl
theorem dX8_twins_0 : decode cX8_twins 0 = .ok (.aload_n 0, 1) := dk_42 (dk_at dksX8_twins_0 0 rfl rfl)
theorem dX8_twins_1 : decode cX8_twins 1 = .ok (.iconst 0, 1) := dk_3 (dk_at dksX8_twins_0 1 rfl rfl)
theorem dX8_twins_2 : decode cX8_twins 2 = .ok (.putfield 3, 3) := dk_181 0 3 (dk_at dksX8_twins_0 2 rfl rfl)
theorem dX8_twins_5 : decode cX8_twins 5 = .ok (.iconst 0, 1) := dk_3 (dk_at dksX8_twins_0 5 rfl rfl)
theorem dX8_twins_6 : decode cX8_twins 6 = .ok (.istore_n 1, 1) := dk_60 (dk_at dksX8_twins_0 6 rfl rfl)
theorem dX8_twins_7 : decode cX8_twins 7 = .ok (.iconst 0, 1) := dk_3 (dk_at dksX8_twins_0 7 rfl rfl)
theorem dX8_twins_8 : decode cX8_twins 8 = .ok (.istore_n 2, 1) := dk_61 (dk_at dksX8_twins_0 8 rfl rfl)
theorem dX8_twins_9 : decode cX8_twins 9 = .ok (.iload_n 2, 1) := dk_28 (dk_at dksX8_twins_0 9 rfl rfl)
theorem dX8_twins_10 : decode cX8_twins 10 = .ok (.aload_n 0, 1) := dk_42 (dk_at dksX8_twins_0 10 rfl rfl)
theorem dX8_twins_11 : decode cX8_twins 11 = .ok (.invokevirtual 84, 3) := dk_182 0 84 (dk_at dksX8_twins_0 11 rfl rfl)
theorem dX8_twins_14 : decode cX8_twins 14 = .ok (.if_icmp .ge 39, 3) := dk_162 0 39 (dk_at dksX8_twins_0 14 rfl rfl)
theorem dX8_twins_17 : decode cX8_twins 17 = .ok (.iconst 0, 1) := dk_3 (dk_at dksX8_twins_0 17 rfl rfl)
theorem dX8_twins_18 : decode cX8_twins 18 = .ok (.istore_n 3, 1) := dk_62 (dk_at dksX8_twins_0 18 rfl rfl)
theorem dX8_twins_19 : decode cX8_twins 19 = .ok (.iload_n 3, 1) := dk_29 (dk_at dksX8_twins_0 19 rfl rfl)
theorem dX8_twins_20 : decode cX8_twins 20 = .ok (.iload_n 2, 1) := dk_28 (dk_at dksX8_twins_0 20 rfl rfl)
theorem dX8_twins_21 : decode cX8_twins 21 = .ok (.if_icmp .ge 26, 3) := dk_162 0 26 (dk_at dksX8_twins_0 21 rfl rfl)
theorem dX8_twins_24 : decode cX8_twins 24 = .ok (.iload_n 1, 1) := dk_27 (dk_at dksX8_twins_1 0 rfl rfl)
theorem dX8_twins_25 : decode cX8_twins 25 = .ok (.aload_n 0, 1) := dk_42 (dk_at dksX8_twins_1 1 rfl rfl)
theorem dX8_twins_26 : decode cX8_twins 26 = .ok (.iload_n 2, 1) := dk_28 (dk_at dksX8_twins_1 2 rfl rfl)
theorem dX8_twins_27 : decode cX8_twins 27 = .ok (.iload_n 3, 1) := dk_29 (dk_at dksX8_twins_1 3 rfl rfl)
theorem dX8_twins_28 : decode cX8_twins 28 = .ok (.invokevirtual 547, 3) := dk_182 2 35 (dk_at dksX8_twins_1 4 rfl rfl)
theorem dX8_twins_31 : decode cX8_twins 31 = .ok (.ifCond .eq 7, 3) := dk_153 0 7 (dk_at dksX8_twins_1 7 rfl rfl)
theorem dX8_twins_34 : decode cX8_twins 34 = .ok (.iconst 1, 1) := dk_4 (dk_at dksX8_twins_1 10 rfl rfl)
theorem dX8_twins_35 : decode cX8_twins 35 = .ok (.goto 4, 3) := dk_167 0 4 (dk_at dksX8_twins_1 11 rfl rfl)
theorem dX8_twins_38 : decode cX8_twins 38 = .ok (.iconst 0, 1) := dk_3 (dk_at dksX8_twins_1 14 rfl rfl)
theorem dX8_twins_39 : decode cX8_twins 39 = .ok (.iadd, 1) := dk_96 (dk_at dksX8_twins_1 15 rfl rfl)
theorem dX8_twins_40 : decode cX8_twins 40 = .ok (.istore_n 1, 1) := dk_60 (dk_at dksX8_twins_1 16 rfl rfl)
theorem dX8_twins_41 : decode cX8_twins 41 = .ok (.iinc 3 1, 3) := dk_132 3 1 (dk_at dksX8_twins_1 17 rfl rfl)
theorem dX8_twins_44 : decode cX8_twins 44 = .ok (.goto (-25), 3) := dk_167 255 231 (dk_at dksX8_twins_1 20 rfl rfl)
theorem dX8_twins_47 : decode cX8_twins 47 = .ok (.iinc 2 1, 3) := dk_132 2 1 (dk_at dksX8_twins_2 0 rfl rfl)
theorem dX8_twins_50 : decode cX8_twins 50 = .ok (.goto (-41), 3) := dk_167 255 215 (dk_at dksX8_twins_2 3 rfl rfl)
theorem dX8_twins_53 : decode cX8_twins 53 = .ok (.iload_n 1, 1) := dk_27 (dk_at dksX8_twins_2 6 rfl rfl)
theorem dX8_twins_54 : decode cX8_twins 54 = .ok (.ireturn, 1) := dk_172 (dk_at dksX8_twins_2 7 rfl rfl)
abbrev cX8_areTwins : ByteArray := prog_19_method_152_code
def yX8_areTwins : MethodName := ⟨RX8, "areTwins", "(II)Z"⟩
def dkwX8_areTwins_4 : List UInt8 := [132, 4, 1, 167, 255, 198, 29, 172]
abbrev dktX8_areTwins_4 : List UInt8 := dkwX8_areTwins_4 ++ []
def dkwX8_areTwins_3 : List UInt8 := [42, 27, 21, 4, 182, 1, 45, 42, 28, 21, 4, 182, 1, 45, 160, 0, 7, 4, 167, 0, 4, 3, 62]
abbrev dktX8_areTwins_3 : List UInt8 := dkwX8_areTwins_3 ++ dktX8_areTwins_4
def dkwX8_areTwins_2 : List UInt8 := [162, 0, 53, 29, 153, 0, 49, 42, 27, 21, 4, 182, 1, 42, 42, 28, 21, 4, 182, 1, 42, 160, 0, 24]
abbrev dktX8_areTwins_2 : List UInt8 := dkwX8_areTwins_2 ++ dktX8_areTwins_3
def dkwX8_areTwins_1 : List UInt8 := [182, 0, 78, 160, 0, 7, 4, 167, 0, 4, 3, 62, 3, 54, 4, 21, 4, 42, 27, 3, 182, 0, 78]
abbrev dktX8_areTwins_1 : List UInt8 := dkwX8_areTwins_1 ++ dktX8_areTwins_2
def dkwX8_areTwins_0 : List UInt8 := [42, 27, 3, 182, 0, 78, 42, 28, 3, 182, 0, 78, 160, 0, 22, 42, 27, 4, 182, 0, 78, 42, 28, 4]
abbrev dktX8_areTwins_0 : List UInt8 := dkwX8_areTwins_0 ++ dktX8_areTwins_1
theorem dksX8_areTwins_0 : cX8_areTwins.data.toList.drop 0 = dktX8_areTwins_0 := by decide +kernel
theorem dksX8_areTwins_1 : cX8_areTwins.data.toList.drop 24 = dktX8_areTwins_1 := dk_seg dksX8_areTwins_0 24 rfl rfl
theorem dksX8_areTwins_2 : cX8_areTwins.data.toList.drop 47 = dktX8_areTwins_2 := dk_seg dksX8_areTwins_1 23 rfl rfl
theorem dksX8_areTwins_3 : cX8_areTwins.data.toList.drop 71 = dktX8_areTwins_3 := dk_seg dksX8_areTwins_2 24 rfl rfl
theorem dksX8_areTwins_4 : cX8_areTwins.data.toList.drop 94 = dktX8_areTwins_4 := dk_seg dksX8_areTwins_3 23 rfl rfl
theorem dX8_areTwins_0 : decode cX8_areTwins 0 = .ok (.aload_n 0, 1) := dk_42 (dk_at dksX8_areTwins_0 0 rfl rfl)
theorem dX8_areTwins_1 : decode cX8_areTwins 1 = .ok (.iload_n 1, 1) := dk_27 (dk_at dksX8_areTwins_0 1 rfl rfl)
theorem dX8_areTwins_2 : decode cX8_areTwins 2 = .ok (.iconst 0, 1) := dk_3 (dk_at dksX8_areTwins_0 2 rfl rfl)
theorem dX8_areTwins_3 : decode cX8_areTwins 3 = .ok (.invokevirtual 78, 3) := dk_182 0 78 (dk_at dksX8_areTwins_0 3 rfl rfl)
theorem dX8_areTwins_6 : decode cX8_areTwins 6 = .ok (.aload_n 0, 1) := dk_42 (dk_at dksX8_areTwins_0 6 rfl rfl)
theorem dX8_areTwins_7 : decode cX8_areTwins 7 = .ok (.iload_n 2, 1) := dk_28 (dk_at dksX8_areTwins_0 7 rfl rfl)
theorem dX8_areTwins_8 : decode cX8_areTwins 8 = .ok (.iconst 0, 1) := dk_3 (dk_at dksX8_areTwins_0 8 rfl rfl)
theorem dX8_areTwins_9 : decode cX8_areTwins 9 = .ok (.invokevirtual 78, 3) := dk_182 0 78 (dk_at dksX8_areTwins_0 9 rfl rfl)
theorem dX8_areTwins_12 : decode cX8_areTwins 12 = .ok (.if_icmp .ne 22, 3) := dk_160 0 22 (dk_at dksX8_areTwins_0 12 rfl rfl)
theorem dX8_areTwins_15 : decode cX8_areTwins 15 = .ok (.aload_n 0, 1) := dk_42 (dk_at dksX8_areTwins_0 15 rfl rfl)
theorem dX8_areTwins_16 : decode cX8_areTwins 16 = .ok (.iload_n 1, 1) := dk_27 (dk_at dksX8_areTwins_0 16 rfl rfl)
theorem dX8_areTwins_17 : decode cX8_areTwins 17 = .ok (.iconst 1, 1) := dk_4 (dk_at dksX8_areTwins_0 17 rfl rfl)
theorem dX8_areTwins_18 : decode cX8_areTwins 18 = .ok (.invokevirtual 78, 3) := dk_182 0 78 (dk_at dksX8_areTwins_0 18 rfl rfl)
theorem dX8_areTwins_21 : decode cX8_areTwins 21 = .ok (.aload_n 0, 1) := dk_42 (dk_at dksX8_areTwins_0 21 rfl rfl)
theorem dX8_areTwins_22 : decode cX8_areTwins 22 = .ok (.iload_n 2, 1) := dk_28 (dk_at dksX8_areTwins_0 22 rfl rfl)
theorem dX8_areTwins_23 : decode cX8_areTwins 23 = .ok (.iconst 1, 1) := dk_4 (dk_at dksX8_areTwins_0 23 rfl rfl)
theorem dX8_areTwins_24 : decode cX8_areTwins 24 = .ok (.invokevirtual 78, 3) := dk_182 0 78 (dk_at dksX8_areTwins_1 0 rfl rfl)
theorem dX8_areTwins_27 : decode cX8_areTwins 27 = .ok (.if_icmp .ne 7, 3) := dk_160 0 7 (dk_at dksX8_areTwins_1 3 rfl rfl)
theorem dX8_areTwins_30 : decode cX8_areTwins 30 = .ok (.iconst 1, 1) := dk_4 (dk_at dksX8_areTwins_1 6 rfl rfl)
theorem dX8_areTwins_31 : decode cX8_areTwins 31 = .ok (.goto 4, 3) := dk_167 0 4 (dk_at dksX8_areTwins_1 7 rfl rfl)
theorem dX8_areTwins_34 : decode cX8_areTwins 34 = .ok (.iconst 0, 1) := dk_3 (dk_at dksX8_areTwins_1 10 rfl rfl)
theorem dX8_areTwins_35 : decode cX8_areTwins 35 = .ok (.istore_n 3, 1) := dk_62 (dk_at dksX8_areTwins_1 11 rfl rfl)
theorem dX8_areTwins_36 : decode cX8_areTwins 36 = .ok (.iconst 0, 1) := dk_3 (dk_at dksX8_areTwins_1 12 rfl rfl)
theorem dX8_areTwins_37 : decode cX8_areTwins 37 = .ok (.istore 4, 2) := dk_54 4 (dk_at dksX8_areTwins_1 13 rfl rfl)
theorem dX8_areTwins_39 : decode cX8_areTwins 39 = .ok (.iload 4, 2) := dk_21 4 (dk_at dksX8_areTwins_1 15 rfl rfl)
theorem dX8_areTwins_41 : decode cX8_areTwins 41 = .ok (.aload_n 0, 1) := dk_42 (dk_at dksX8_areTwins_1 17 rfl rfl)
theorem dX8_areTwins_42 : decode cX8_areTwins 42 = .ok (.iload_n 1, 1) := dk_27 (dk_at dksX8_areTwins_1 18 rfl rfl)
theorem dX8_areTwins_43 : decode cX8_areTwins 43 = .ok (.iconst 0, 1) := dk_3 (dk_at dksX8_areTwins_1 19 rfl rfl)
theorem dX8_areTwins_44 : decode cX8_areTwins 44 = .ok (.invokevirtual 78, 3) := dk_182 0 78 (dk_at dksX8_areTwins_1 20 rfl rfl)
theorem dX8_areTwins_47 : decode cX8_areTwins 47 = .ok (.if_icmp .ge 53, 3) := dk_162 0 53 (dk_at dksX8_areTwins_2 0 rfl rfl)
theorem dX8_areTwins_50 : decode cX8_areTwins 50 = .ok (.iload_n 3, 1) := dk_29 (dk_at dksX8_areTwins_2 3 rfl rfl)
theorem dX8_areTwins_51 : decode cX8_areTwins 51 = .ok (.ifCond .eq 49, 3) := dk_153 0 49 (dk_at dksX8_areTwins_2 4 rfl rfl)
theorem dX8_areTwins_54 : decode cX8_areTwins 54 = .ok (.aload_n 0, 1) := dk_42 (dk_at dksX8_areTwins_2 7 rfl rfl)
theorem dX8_areTwins_55 : decode cX8_areTwins 55 = .ok (.iload_n 1, 1) := dk_27 (dk_at dksX8_areTwins_2 8 rfl rfl)
theorem dX8_areTwins_56 : decode cX8_areTwins 56 = .ok (.iload 4, 2) := dk_21 4 (dk_at dksX8_areTwins_2 9 rfl rfl)
theorem dX8_areTwins_58 : decode cX8_areTwins 58 = .ok (.invokevirtual 298, 3) := dk_182 1 42 (dk_at dksX8_areTwins_2 11 rfl rfl)
theorem dX8_areTwins_61 : decode cX8_areTwins 61 = .ok (.aload_n 0, 1) := dk_42 (dk_at dksX8_areTwins_2 14 rfl rfl)
theorem dX8_areTwins_62 : decode cX8_areTwins 62 = .ok (.iload_n 2, 1) := dk_28 (dk_at dksX8_areTwins_2 15 rfl rfl)
theorem dX8_areTwins_63 : decode cX8_areTwins 63 = .ok (.iload 4, 2) := dk_21 4 (dk_at dksX8_areTwins_2 16 rfl rfl)
theorem dX8_areTwins_65 : decode cX8_areTwins 65 = .ok (.invokevirtual 298, 3) := dk_182 1 42 (dk_at dksX8_areTwins_2 18 rfl rfl)
theorem dX8_areTwins_68 : decode cX8_areTwins 68 = .ok (.if_icmp .ne 24, 3) := dk_160 0 24 (dk_at dksX8_areTwins_2 21 rfl rfl)
theorem dX8_areTwins_71 : decode cX8_areTwins 71 = .ok (.aload_n 0, 1) := dk_42 (dk_at dksX8_areTwins_3 0 rfl rfl)
theorem dX8_areTwins_72 : decode cX8_areTwins 72 = .ok (.iload_n 1, 1) := dk_27 (dk_at dksX8_areTwins_3 1 rfl rfl)
theorem dX8_areTwins_73 : decode cX8_areTwins 73 = .ok (.iload 4, 2) := dk_21 4 (dk_at dksX8_areTwins_3 2 rfl rfl)
theorem dX8_areTwins_75 : decode cX8_areTwins 75 = .ok (.invokevirtual 301, 3) := dk_182 1 45 (dk_at dksX8_areTwins_3 4 rfl rfl)
theorem dX8_areTwins_78 : decode cX8_areTwins 78 = .ok (.aload_n 0, 1) := dk_42 (dk_at dksX8_areTwins_3 7 rfl rfl)
theorem dX8_areTwins_79 : decode cX8_areTwins 79 = .ok (.iload_n 2, 1) := dk_28 (dk_at dksX8_areTwins_3 8 rfl rfl)
theorem dX8_areTwins_80 : decode cX8_areTwins 80 = .ok (.iload 4, 2) := dk_21 4 (dk_at dksX8_areTwins_3 9 rfl rfl)
theorem dX8_areTwins_82 : decode cX8_areTwins 82 = .ok (.invokevirtual 301, 3) := dk_182 1 45 (dk_at dksX8_areTwins_3 11 rfl rfl)
theorem dX8_areTwins_85 : decode cX8_areTwins 85 = .ok (.if_icmp .ne 7, 3) := dk_160 0 7 (dk_at dksX8_areTwins_3 14 rfl rfl)
theorem dX8_areTwins_88 : decode cX8_areTwins 88 = .ok (.iconst 1, 1) := dk_4 (dk_at dksX8_areTwins_3 17 rfl rfl)
theorem dX8_areTwins_89 : decode cX8_areTwins 89 = .ok (.goto 4, 3) := dk_167 0 4 (dk_at dksX8_areTwins_3 18 rfl rfl)
theorem dX8_areTwins_92 : decode cX8_areTwins 92 = .ok (.iconst 0, 1) := dk_3 (dk_at dksX8_areTwins_3 21 rfl rfl)
theorem dX8_areTwins_93 : decode cX8_areTwins 93 = .ok (.istore_n 3, 1) := dk_62 (dk_at dksX8_areTwins_3 22 rfl rfl)
theorem dX8_areTwins_94 : decode cX8_areTwins 94 = .ok (.iinc 4 1, 3) := dk_132 4 1 (dk_at dksX8_areTwins_4 0 rfl rfl)
theorem dX8_areTwins_97 : decode cX8_areTwins 97 = .ok (.goto (-58), 3) := dk_167 255 198 (dk_at dksX8_areTwins_4 3 rfl rfl)
theorem dX8_areTwins_100 : decode cX8_areTwins 100 = .ok (.iload_n 3, 1) := dk_29 (dk_at dksX8_areTwins_4 6 rfl rfl)
theorem dX8_areTwins_101 : decode cX8_areTwins 101 = .ok (.ireturn, 1) := dk_172 (dk_at dksX8_areTwins_4 7 rfl rfl)
abbrev cX8_ahead : ByteArray := prog_19_method_155_code
def yX8_ahead : MethodName := ⟨RX8, "ahead", "(IZ)I"⟩
def dkwX8_ahead_2 : List UInt8 := [182, 1, 214, 29, 172]
abbrev dktX8_ahead_2 : List UInt8 := dkwX8_ahead_2 ++ []
def dkwX8_ahead_1 : List UInt8 := [27, 4, 182, 1, 186, 87, 42, 28, 153, 0, 7, 4, 167, 0, 4, 3, 3, 182, 1, 128, 62, 42]
abbrev dktX8_ahead_1 : List UInt8 := dkwX8_ahead_1 ++ dktX8_ahead_2
def dkwX8_ahead_0 : List UInt8 := [42, 3, 181, 0, 3, 42, 27, 184, 2, 38, 4, 182, 1, 24, 153, 0, 5, 3, 172, 42, 182, 1, 208, 42]
abbrev dktX8_ahead_0 : List UInt8 := dkwX8_ahead_0 ++ dktX8_ahead_1
theorem dksX8_ahead_0 : cX8_ahead.data.toList.drop 0 = dktX8_ahead_0 := by decide +kernel
theorem dksX8_ahead_1 : cX8_ahead.data.toList.drop 24 = dktX8_ahead_1 := dk_seg dksX8_ahead_0 24 rfl rfl
theorem dksX8_ahead_2 : cX8_ahead.data.toList.drop 46 = dktX8_ahead_2 := dk_seg dksX8_ahead_1 22 rfl rfl
theorem dX8_ahead_0 : decode cX8_ahead 0 = .ok (.aload_n 0, 1) := dk_42 (dk_at dksX8_ahead_0 0 rfl rfl)
theorem dX8_ahead_1 : decode cX8_ahead 1 = .ok (.iconst 0, 1) := dk_3 (dk_at dksX8_ahead_0 1 rfl rfl)
theorem dX8_ahead_2 : decode cX8_ahead 2 = .ok (.putfield 3, 3) := dk_181 0 3 (dk_at dksX8_ahead_0 2 rfl rfl)
theorem dX8_ahead_5 : decode cX8_ahead 5 = .ok (.aload_n 0, 1) := dk_42 (dk_at dksX8_ahead_0 5 rfl rfl)
theorem dX8_ahead_6 : decode cX8_ahead 6 = .ok (.iload_n 1, 1) := dk_27 (dk_at dksX8_ahead_0 6 rfl rfl)
theorem dX8_ahead_7 : decode cX8_ahead 7 = .ok (.invokestatic 550, 3) := dk_184 2 38 (dk_at dksX8_ahead_0 7 rfl rfl)
theorem dX8_ahead_10 : decode cX8_ahead 10 = .ok (.iconst 1, 1) := dk_4 (dk_at dksX8_ahead_0 10 rfl rfl)
theorem dX8_ahead_11 : decode cX8_ahead 11 = .ok (.invokevirtual 280, 3) := dk_182 1 24 (dk_at dksX8_ahead_0 11 rfl rfl)
theorem dX8_ahead_14 : decode cX8_ahead 14 = .ok (.ifCond .eq 5, 3) := dk_153 0 5 (dk_at dksX8_ahead_0 14 rfl rfl)
theorem dX8_ahead_17 : decode cX8_ahead 17 = .ok (.iconst 0, 1) := dk_3 (dk_at dksX8_ahead_0 17 rfl rfl)
theorem dX8_ahead_18 : decode cX8_ahead 18 = .ok (.ireturn, 1) := dk_172 (dk_at dksX8_ahead_0 18 rfl rfl)
theorem dX8_ahead_19 : decode cX8_ahead 19 = .ok (.aload_n 0, 1) := dk_42 (dk_at dksX8_ahead_0 19 rfl rfl)
theorem dX8_ahead_20 : decode cX8_ahead 20 = .ok (.invokevirtual 464, 3) := dk_182 1 208 (dk_at dksX8_ahead_0 20 rfl rfl)
theorem dX8_ahead_23 : decode cX8_ahead 23 = .ok (.aload_n 0, 1) := dk_42 (dk_at dksX8_ahead_0 23 rfl rfl)
theorem dX8_ahead_24 : decode cX8_ahead 24 = .ok (.iload_n 1, 1) := dk_27 (dk_at dksX8_ahead_1 0 rfl rfl)
theorem dX8_ahead_25 : decode cX8_ahead 25 = .ok (.iconst 1, 1) := dk_4 (dk_at dksX8_ahead_1 1 rfl rfl)
theorem dX8_ahead_26 : decode cX8_ahead 26 = .ok (.invokevirtual 442, 3) := dk_182 1 186 (dk_at dksX8_ahead_1 2 rfl rfl)
theorem dX8_ahead_29 : decode cX8_ahead 29 = .ok (.pop, 1) := dk_87 (dk_at dksX8_ahead_1 5 rfl rfl)
theorem dX8_ahead_30 : decode cX8_ahead 30 = .ok (.aload_n 0, 1) := dk_42 (dk_at dksX8_ahead_1 6 rfl rfl)
theorem dX8_ahead_31 : decode cX8_ahead 31 = .ok (.iload_n 2, 1) := dk_28 (dk_at dksX8_ahead_1 7 rfl rfl)
theorem dX8_ahead_32 : decode cX8_ahead 32 = .ok (.ifCond .eq 7, 3) := dk_153 0 7 (dk_at dksX8_ahead_1 8 rfl rfl)
theorem dX8_ahead_35 : decode cX8_ahead 35 = .ok (.iconst 1, 1) := dk_4 (dk_at dksX8_ahead_1 11 rfl rfl)
theorem dX8_ahead_36 : decode cX8_ahead 36 = .ok (.goto 4, 3) := dk_167 0 4 (dk_at dksX8_ahead_1 12 rfl rfl)
theorem dX8_ahead_39 : decode cX8_ahead 39 = .ok (.iconst 0, 1) := dk_3 (dk_at dksX8_ahead_1 15 rfl rfl)
theorem dX8_ahead_40 : decode cX8_ahead 40 = .ok (.iconst 0, 1) := dk_3 (dk_at dksX8_ahead_1 16 rfl rfl)
theorem dX8_ahead_41 : decode cX8_ahead 41 = .ok (.invokevirtual 384, 3) := dk_182 1 128 (dk_at dksX8_ahead_1 17 rfl rfl)
theorem dX8_ahead_44 : decode cX8_ahead 44 = .ok (.istore_n 3, 1) := dk_62 (dk_at dksX8_ahead_1 20 rfl rfl)
theorem dX8_ahead_45 : decode cX8_ahead 45 = .ok (.aload_n 0, 1) := dk_42 (dk_at dksX8_ahead_1 21 rfl rfl)
theorem dX8_ahead_46 : decode cX8_ahead 46 = .ok (.invokevirtual 470, 3) := dk_182 1 214 (dk_at dksX8_ahead_2 0 rfl rfl)
theorem dX8_ahead_49 : decode cX8_ahead 49 = .ok (.iload_n 3, 1) := dk_29 (dk_at dksX8_ahead_2 3 rfl rfl)
theorem dX8_ahead_50 : decode cX8_ahead 50 = .ok (.ireturn, 1) := dk_172 (dk_at dksX8_ahead_2 4 rfl rfl)
abbrev cX8_noTicks : ByteArray := prog_19_method_154_code
def yX8_noTicks : MethodName := ⟨RX8, "noTicks", "(I)Z"⟩
def dkwX8_noTicks_0 : List UInt8 := [26, 3, 16, 60, 184, 0, 88, 154, 0, 7, 4, 167, 0, 4, 3, 172]
abbrev dktX8_noTicks_0 : List UInt8 := dkwX8_noTicks_0 ++ []
theorem dksX8_noTicks_0 : cX8_noTicks.data.toList.drop 0 = dktX8_noTicks_0 := by decide +kernel
theorem dX8_noTicks_0 : decode cX8_noTicks 0 = .ok (.iload_n 0, 1) := dk_26 (dk_at dksX8_noTicks_0 0 rfl rfl)
theorem dX8_noTicks_1 : decode cX8_noTicks 1 = .ok (.iconst 0, 1) := dk_3 (dk_at dksX8_noTicks_0 1 rfl rfl)
theorem dX8_noTicks_2 : decode cX8_noTicks 2 = .ok (.bipush 60, 2) := dk_16 60 (dk_at dksX8_noTicks_0 2 rfl rfl)
theorem dX8_noTicks_4 : decode cX8_noTicks 4 = .ok (.invokestatic 88, 3) := dk_184 0 88 (dk_at dksX8_noTicks_0 4 rfl rfl)
theorem dX8_noTicks_7 : decode cX8_noTicks 7 = .ok (.ifCond .ne 7, 3) := dk_154 0 7 (dk_at dksX8_noTicks_0 7 rfl rfl)
theorem dX8_noTicks_10 : decode cX8_noTicks 10 = .ok (.iconst 1, 1) := dk_4 (dk_at dksX8_noTicks_0 10 rfl rfl)
theorem dX8_noTicks_11 : decode cX8_noTicks 11 = .ok (.goto 4, 3) := dk_167 0 4 (dk_at dksX8_noTicks_0 11 rfl rfl)
theorem dX8_noTicks_14 : decode cX8_noTicks 14 = .ok (.iconst 0, 1) := dk_3 (dk_at dksX8_noTicks_0 14 rfl rfl)
theorem dX8_noTicks_15 : decode cX8_noTicks 15 = .ok (.ireturn, 1) := dk_172 (dk_at dksX8_noTicks_0 15 rfl rfl)
abbrev cX8_trial : ByteArray := prog_19_method_156_code
def yX8_trial : MethodName := ⟨RX8, "trial", "(IZ)I"⟩
def dkwX8_trial_2 : List UInt8 := [153, 0, 7, 4, 167, 0, 4, 3, 62, 42, 182, 1, 214, 29, 172]
abbrev dktX8_trial_2 : List UInt8 := dkwX8_trial_2 ++ []
def dkwX8_trial_1 : List UInt8 := [27, 3, 182, 1, 186, 87, 28, 154, 0, 13, 42, 180, 0, 13, 16, 9, 46, 167, 0, 15, 42, 182, 1, 152]
abbrev dktX8_trial_1 : List UInt8 := dkwX8_trial_1 ++ dktX8_trial_2
def dkwX8_trial_0 : List UInt8 := [42, 3, 181, 0, 3, 42, 27, 184, 2, 38, 4, 182, 1, 24, 153, 0, 5, 3, 172, 42, 182, 1, 208, 42]
abbrev dktX8_trial_0 : List UInt8 := dkwX8_trial_0 ++ dktX8_trial_1
theorem dksX8_trial_0 : cX8_trial.data.toList.drop 0 = dktX8_trial_0 := by decide +kernel
theorem dksX8_trial_1 : cX8_trial.data.toList.drop 24 = dktX8_trial_1 := dk_seg dksX8_trial_0 24 rfl rfl
theorem dksX8_trial_2 : cX8_trial.data.toList.drop 48 = dktX8_trial_2 := dk_seg dksX8_trial_1 24 rfl rfl
theorem dX8_trial_0 : decode cX8_trial 0 = .ok (.aload_n 0, 1) := dk_42 (dk_at dksX8_trial_0 0 rfl rfl)
theorem dX8_trial_1 : decode cX8_trial 1 = .ok (.iconst 0, 1) := dk_3 (dk_at dksX8_trial_0 1 rfl rfl)
theorem dX8_trial_2 : decode cX8_trial 2 = .ok (.putfield 3, 3) := dk_181 0 3 (dk_at dksX8_trial_0 2 rfl rfl)
theorem dX8_trial_5 : decode cX8_trial 5 = .ok (.aload_n 0, 1) := dk_42 (dk_at dksX8_trial_0 5 rfl rfl)
theorem dX8_trial_6 : decode cX8_trial 6 = .ok (.iload_n 1, 1) := dk_27 (dk_at dksX8_trial_0 6 rfl rfl)
theorem dX8_trial_7 : decode cX8_trial 7 = .ok (.invokestatic 550, 3) := dk_184 2 38 (dk_at dksX8_trial_0 7 rfl rfl)
theorem dX8_trial_10 : decode cX8_trial 10 = .ok (.iconst 1, 1) := dk_4 (dk_at dksX8_trial_0 10 rfl rfl)
theorem dX8_trial_11 : decode cX8_trial 11 = .ok (.invokevirtual 280, 3) := dk_182 1 24 (dk_at dksX8_trial_0 11 rfl rfl)
theorem dX8_trial_14 : decode cX8_trial 14 = .ok (.ifCond .eq 5, 3) := dk_153 0 5 (dk_at dksX8_trial_0 14 rfl rfl)
theorem dX8_trial_17 : decode cX8_trial 17 = .ok (.iconst 0, 1) := dk_3 (dk_at dksX8_trial_0 17 rfl rfl)
theorem dX8_trial_18 : decode cX8_trial 18 = .ok (.ireturn, 1) := dk_172 (dk_at dksX8_trial_0 18 rfl rfl)
theorem dX8_trial_19 : decode cX8_trial 19 = .ok (.aload_n 0, 1) := dk_42 (dk_at dksX8_trial_0 19 rfl rfl)
theorem dX8_trial_20 : decode cX8_trial 20 = .ok (.invokevirtual 464, 3) := dk_182 1 208 (dk_at dksX8_trial_0 20 rfl rfl)
theorem dX8_trial_23 : decode cX8_trial 23 = .ok (.aload_n 0, 1) := dk_42 (dk_at dksX8_trial_0 23 rfl rfl)
theorem dX8_trial_24 : decode cX8_trial 24 = .ok (.iload_n 1, 1) := dk_27 (dk_at dksX8_trial_1 0 rfl rfl)
theorem dX8_trial_25 : decode cX8_trial 25 = .ok (.iconst 0, 1) := dk_3 (dk_at dksX8_trial_1 1 rfl rfl)
theorem dX8_trial_26 : decode cX8_trial 26 = .ok (.invokevirtual 442, 3) := dk_182 1 186 (dk_at dksX8_trial_1 2 rfl rfl)
theorem dX8_trial_29 : decode cX8_trial 29 = .ok (.pop, 1) := dk_87 (dk_at dksX8_trial_1 5 rfl rfl)
theorem dX8_trial_30 : decode cX8_trial 30 = .ok (.iload_n 2, 1) := dk_28 (dk_at dksX8_trial_1 6 rfl rfl)
theorem dX8_trial_31 : decode cX8_trial 31 = .ok (.ifCond .ne 13, 3) := dk_154 0 13 (dk_at dksX8_trial_1 7 rfl rfl)
theorem dX8_trial_34 : decode cX8_trial 34 = .ok (.aload_n 0, 1) := dk_42 (dk_at dksX8_trial_1 10 rfl rfl)
theorem dX8_trial_35 : decode cX8_trial 35 = .ok (.getfield 13, 3) := dk_180 0 13 (dk_at dksX8_trial_1 11 rfl rfl)
theorem dX8_trial_38 : decode cX8_trial 38 = .ok (.bipush 9, 2) := dk_16 9 (dk_at dksX8_trial_1 14 rfl rfl)
theorem dX8_trial_40 : decode cX8_trial 40 = .ok (.iaload, 1) := dk_46 (dk_at dksX8_trial_1 16 rfl rfl)
theorem dX8_trial_41 : decode cX8_trial 41 = .ok (.goto 15, 3) := dk_167 0 15 (dk_at dksX8_trial_1 17 rfl rfl)
theorem dX8_trial_44 : decode cX8_trial 44 = .ok (.aload_n 0, 1) := dk_42 (dk_at dksX8_trial_1 20 rfl rfl)
theorem dX8_trial_45 : decode cX8_trial 45 = .ok (.invokevirtual 408, 3) := dk_182 1 152 (dk_at dksX8_trial_1 21 rfl rfl)
theorem dX8_trial_48 : decode cX8_trial 48 = .ok (.ifCond .eq 7, 3) := dk_153 0 7 (dk_at dksX8_trial_2 0 rfl rfl)
theorem dX8_trial_51 : decode cX8_trial 51 = .ok (.iconst 1, 1) := dk_4 (dk_at dksX8_trial_2 3 rfl rfl)
theorem dX8_trial_52 : decode cX8_trial 52 = .ok (.goto 4, 3) := dk_167 0 4 (dk_at dksX8_trial_2 4 rfl rfl)
theorem dX8_trial_55 : decode cX8_trial 55 = .ok (.iconst 0, 1) := dk_3 (dk_at dksX8_trial_2 7 rfl rfl)
theorem dX8_trial_56 : decode cX8_trial 56 = .ok (.istore_n 3, 1) := dk_62 (dk_at dksX8_trial_2 8 rfl rfl)
theorem dX8_trial_57 : decode cX8_trial 57 = .ok (.aload_n 0, 1) := dk_42 (dk_at dksX8_trial_2 9 rfl rfl)
theorem dX8_trial_58 : decode cX8_trial 58 = .ok (.invokevirtual 470, 3) := dk_182 1 214 (dk_at dksX8_trial_2 10 rfl rfl)
theorem dX8_trial_61 : decode cX8_trial 61 = .ok (.iload_n 3, 1) := dk_29 (dk_at dksX8_trial_2 13 rfl rfl)
theorem dX8_trial_62 : decode cX8_trial 62 = .ok (.ireturn, 1) := dk_172 (dk_at dksX8_trial_2 14 rfl rfl)
abbrev cX8_span : ByteArray := prog_19_method_157_code
def yX8_span : MethodName := ⟨RX8, "span", "(IZ)I"⟩
def dkwX8_span_4 : List UInt8 := [132, 4, 1, 167, 255, 188, 29, 172]
abbrev dktX8_span_4 : List UInt8 := dkwX8_span_4 ++ []
def dkwX8_span_3 : List UInt8 := [167, 0, 22, 28, 153, 0, 12, 29, 21, 5, 184, 1, 253, 167, 0, 9, 29, 21, 5, 184, 1, 131, 62]
abbrev dktX8_span_3 : List UInt8 := dkwX8_span_3 ++ dktX8_span_4
def dkwX8_span_2 : List UInt8 := [182, 1, 186, 87, 42, 180, 0, 13, 16, 9, 46, 54, 5, 42, 182, 1, 214, 29, 156, 0, 8, 21, 5]
abbrev dktX8_span_2 : List UInt8 := dkwX8_span_2 ++ dktX8_span_3
def dkwX8_span_1 : List UInt8 := [62, 4, 54, 4, 21, 4, 16, 6, 163, 0, 67, 42, 180, 0, 13, 16, 11, 21, 4, 79, 42, 27, 3]
abbrev dktX8_span_1 : List UInt8 := dkwX8_span_1 ++ dktX8_span_2
def dkwX8_span_0 : List UInt8 := [42, 3, 181, 0, 3, 42, 27, 184, 2, 38, 4, 182, 1, 24, 153, 0, 5, 3, 172, 42, 182, 1, 208, 2]
abbrev dktX8_span_0 : List UInt8 := dkwX8_span_0 ++ dktX8_span_1
theorem dksX8_span_0 : cX8_span.data.toList.drop 0 = dktX8_span_0 := by decide +kernel
theorem dksX8_span_1 : cX8_span.data.toList.drop 24 = dktX8_span_1 := dk_seg dksX8_span_0 24 rfl rfl
theorem dksX8_span_2 : cX8_span.data.toList.drop 47 = dktX8_span_2 := dk_seg dksX8_span_1 23 rfl rfl
theorem dksX8_span_3 : cX8_span.data.toList.drop 70 = dktX8_span_3 := dk_seg dksX8_span_2 23 rfl rfl
theorem dksX8_span_4 : cX8_span.data.toList.drop 93 = dktX8_span_4 := dk_seg dksX8_span_3 23 rfl rfl
theorem dX8_span_0 : decode cX8_span 0 = .ok (.aload_n 0, 1) := dk_42 (dk_at dksX8_span_0 0 rfl rfl)
theorem dX8_span_1 : decode cX8_span 1 = .ok (.iconst 0, 1) := dk_3 (dk_at dksX8_span_0 1 rfl rfl)
theorem dX8_span_2 : decode cX8_span 2 = .ok (.putfield 3, 3) := dk_181 0 3 (dk_at dksX8_span_0 2 rfl rfl)
theorem dX8_span_5 : decode cX8_span 5 = .ok (.aload_n 0, 1) := dk_42 (dk_at dksX8_span_0 5 rfl rfl)
theorem dX8_span_6 : decode cX8_span 6 = .ok (.iload_n 1, 1) := dk_27 (dk_at dksX8_span_0 6 rfl rfl)
theorem dX8_span_7 : decode cX8_span 7 = .ok (.invokestatic 550, 3) := dk_184 2 38 (dk_at dksX8_span_0 7 rfl rfl)
theorem dX8_span_10 : decode cX8_span 10 = .ok (.iconst 1, 1) := dk_4 (dk_at dksX8_span_0 10 rfl rfl)
theorem dX8_span_11 : decode cX8_span 11 = .ok (.invokevirtual 280, 3) := dk_182 1 24 (dk_at dksX8_span_0 11 rfl rfl)
theorem dX8_span_14 : decode cX8_span 14 = .ok (.ifCond .eq 5, 3) := dk_153 0 5 (dk_at dksX8_span_0 14 rfl rfl)
theorem dX8_span_17 : decode cX8_span 17 = .ok (.iconst 0, 1) := dk_3 (dk_at dksX8_span_0 17 rfl rfl)
theorem dX8_span_18 : decode cX8_span 18 = .ok (.ireturn, 1) := dk_172 (dk_at dksX8_span_0 18 rfl rfl)
theorem dX8_span_19 : decode cX8_span 19 = .ok (.aload_n 0, 1) := dk_42 (dk_at dksX8_span_0 19 rfl rfl)
theorem dX8_span_20 : decode cX8_span 20 = .ok (.invokevirtual 464, 3) := dk_182 1 208 (dk_at dksX8_span_0 20 rfl rfl)
theorem dX8_span_23 : decode cX8_span 23 = .ok (.iconst (-1), 1) := dk_2 (dk_at dksX8_span_0 23 rfl rfl)
theorem dX8_span_24 : decode cX8_span 24 = .ok (.istore_n 3, 1) := dk_62 (dk_at dksX8_span_1 0 rfl rfl)
theorem dX8_span_25 : decode cX8_span 25 = .ok (.iconst 1, 1) := dk_4 (dk_at dksX8_span_1 1 rfl rfl)
theorem dX8_span_26 : decode cX8_span 26 = .ok (.istore 4, 2) := dk_54 4 (dk_at dksX8_span_1 2 rfl rfl)
theorem dX8_span_28 : decode cX8_span 28 = .ok (.iload 4, 2) := dk_21 4 (dk_at dksX8_span_1 4 rfl rfl)
theorem dX8_span_30 : decode cX8_span 30 = .ok (.bipush 6, 2) := dk_16 6 (dk_at dksX8_span_1 6 rfl rfl)
theorem dX8_span_32 : decode cX8_span 32 = .ok (.if_icmp .gt 67, 3) := dk_163 0 67 (dk_at dksX8_span_1 8 rfl rfl)
theorem dX8_span_35 : decode cX8_span 35 = .ok (.aload_n 0, 1) := dk_42 (dk_at dksX8_span_1 11 rfl rfl)
theorem dX8_span_36 : decode cX8_span 36 = .ok (.getfield 13, 3) := dk_180 0 13 (dk_at dksX8_span_1 12 rfl rfl)
theorem dX8_span_39 : decode cX8_span 39 = .ok (.bipush 11, 2) := dk_16 11 (dk_at dksX8_span_1 15 rfl rfl)
theorem dX8_span_41 : decode cX8_span 41 = .ok (.iload 4, 2) := dk_21 4 (dk_at dksX8_span_1 17 rfl rfl)
theorem dX8_span_43 : decode cX8_span 43 = .ok (.iastore, 1) := dk_79 (dk_at dksX8_span_1 19 rfl rfl)
theorem dX8_span_44 : decode cX8_span 44 = .ok (.aload_n 0, 1) := dk_42 (dk_at dksX8_span_1 20 rfl rfl)
theorem dX8_span_45 : decode cX8_span 45 = .ok (.iload_n 1, 1) := dk_27 (dk_at dksX8_span_1 21 rfl rfl)
theorem dX8_span_46 : decode cX8_span 46 = .ok (.iconst 0, 1) := dk_3 (dk_at dksX8_span_1 22 rfl rfl)
theorem dX8_span_47 : decode cX8_span 47 = .ok (.invokevirtual 442, 3) := dk_182 1 186 (dk_at dksX8_span_2 0 rfl rfl)
theorem dX8_span_50 : decode cX8_span 50 = .ok (.pop, 1) := dk_87 (dk_at dksX8_span_2 3 rfl rfl)
theorem dX8_span_51 : decode cX8_span 51 = .ok (.aload_n 0, 1) := dk_42 (dk_at dksX8_span_2 4 rfl rfl)
theorem dX8_span_52 : decode cX8_span 52 = .ok (.getfield 13, 3) := dk_180 0 13 (dk_at dksX8_span_2 5 rfl rfl)
theorem dX8_span_55 : decode cX8_span 55 = .ok (.bipush 9, 2) := dk_16 9 (dk_at dksX8_span_2 8 rfl rfl)
theorem dX8_span_57 : decode cX8_span 57 = .ok (.iaload, 1) := dk_46 (dk_at dksX8_span_2 10 rfl rfl)
theorem dX8_span_58 : decode cX8_span 58 = .ok (.istore 5, 2) := dk_54 5 (dk_at dksX8_span_2 11 rfl rfl)
theorem dX8_span_60 : decode cX8_span 60 = .ok (.aload_n 0, 1) := dk_42 (dk_at dksX8_span_2 13 rfl rfl)
theorem dX8_span_61 : decode cX8_span 61 = .ok (.invokevirtual 470, 3) := dk_182 1 214 (dk_at dksX8_span_2 14 rfl rfl)
theorem dX8_span_64 : decode cX8_span 64 = .ok (.iload_n 3, 1) := dk_29 (dk_at dksX8_span_2 17 rfl rfl)
theorem dX8_span_65 : decode cX8_span 65 = .ok (.ifCond .ge 8, 3) := dk_156 0 8 (dk_at dksX8_span_2 18 rfl rfl)
theorem dX8_span_68 : decode cX8_span 68 = .ok (.iload 5, 2) := dk_21 5 (dk_at dksX8_span_2 21 rfl rfl)
theorem dX8_span_70 : decode cX8_span 70 = .ok (.goto 22, 3) := dk_167 0 22 (dk_at dksX8_span_3 0 rfl rfl)
theorem dX8_span_73 : decode cX8_span 73 = .ok (.iload_n 2, 1) := dk_28 (dk_at dksX8_span_3 3 rfl rfl)
theorem dX8_span_74 : decode cX8_span 74 = .ok (.ifCond .eq 12, 3) := dk_153 0 12 (dk_at dksX8_span_3 4 rfl rfl)
theorem dX8_span_77 : decode cX8_span 77 = .ok (.iload_n 3, 1) := dk_29 (dk_at dksX8_span_3 7 rfl rfl)
theorem dX8_span_78 : decode cX8_span 78 = .ok (.iload 5, 2) := dk_21 5 (dk_at dksX8_span_3 8 rfl rfl)
theorem dX8_span_80 : decode cX8_span 80 = .ok (.invokestatic 509, 3) := dk_184 1 253 (dk_at dksX8_span_3 10 rfl rfl)
theorem dX8_span_83 : decode cX8_span 83 = .ok (.goto 9, 3) := dk_167 0 9 (dk_at dksX8_span_3 13 rfl rfl)
theorem dX8_span_86 : decode cX8_span 86 = .ok (.iload_n 3, 1) := dk_29 (dk_at dksX8_span_3 16 rfl rfl)
theorem dX8_span_87 : decode cX8_span 87 = .ok (.iload 5, 2) := dk_21 5 (dk_at dksX8_span_3 17 rfl rfl)
theorem dX8_span_89 : decode cX8_span 89 = .ok (.invokestatic 387, 3) := dk_184 1 131 (dk_at dksX8_span_3 19 rfl rfl)
theorem dX8_span_92 : decode cX8_span 92 = .ok (.istore_n 3, 1) := dk_62 (dk_at dksX8_span_3 22 rfl rfl)
theorem dX8_span_93 : decode cX8_span 93 = .ok (.iinc 4 1, 3) := dk_132 4 1 (dk_at dksX8_span_4 0 rfl rfl)
theorem dX8_span_96 : decode cX8_span 96 = .ok (.goto (-68), 3) := dk_167 255 188 (dk_at dksX8_span_4 3 rfl rfl)
theorem dX8_span_99 : decode cX8_span 99 = .ok (.iload_n 3, 1) := dk_29 (dk_at dksX8_span_4 6 rfl rfl)
theorem dX8_span_100 : decode cX8_span 100 = .ok (.ireturn, 1) := dk_172 (dk_at dksX8_span_4 7 rfl rfl)
abbrev cX8_led : ByteArray := prog_19_method_159_code
def yX8_led : MethodName := ⟨RX8, "led", "(IZ)I"⟩
def dkwX8_led_3 : List UInt8 := [132, 5, 255, 167, 255, 222, 28, 153, 0, 8, 21, 4, 167, 0, 4, 29, 172]
abbrev dktX8_led_3 : List UInt8 := dkwX8_led_3 ++ []
def dkwX8_led_2 : List UInt8 := [182, 2, 41, 27, 159, 0, 6, 167, 0, 15, 132, 3, 1, 42, 21, 5, 3, 182, 2, 41, 54, 4]
abbrev dktX8_led_2 : List UInt8 := dkwX8_led_2 ++ dktX8_led_3
def dkwX8_led_1 : List UInt8 := [54, 4, 42, 180, 0, 13, 16, 10, 46, 4, 100, 54, 5, 21, 5, 155, 0, 35, 42, 21, 5, 4]
abbrev dktX8_led_1 : List UInt8 := dkwX8_led_1 ++ dktX8_led_2
def dkwX8_led_0 : List UInt8 := [42, 3, 181, 0, 3, 42, 42, 27, 182, 1, 177, 4, 182, 1, 24, 153, 0, 5, 3, 172, 3, 62, 2]
abbrev dktX8_led_0 : List UInt8 := dkwX8_led_0 ++ dktX8_led_1
theorem dksX8_led_0 : cX8_led.data.toList.drop 0 = dktX8_led_0 := by decide +kernel
theorem dksX8_led_1 : cX8_led.data.toList.drop 23 = dktX8_led_1 := dk_seg dksX8_led_0 23 rfl rfl
theorem dksX8_led_2 : cX8_led.data.toList.drop 45 = dktX8_led_2 := dk_seg dksX8_led_1 22 rfl rfl
theorem dksX8_led_3 : cX8_led.data.toList.drop 67 = dktX8_led_3 := dk_seg dksX8_led_2 22 rfl rfl
theorem dX8_led_0 : decode cX8_led 0 = .ok (.aload_n 0, 1) := dk_42 (dk_at dksX8_led_0 0 rfl rfl)
theorem dX8_led_1 : decode cX8_led 1 = .ok (.iconst 0, 1) := dk_3 (dk_at dksX8_led_0 1 rfl rfl)
theorem dX8_led_2 : decode cX8_led 2 = .ok (.putfield 3, 3) := dk_181 0 3 (dk_at dksX8_led_0 2 rfl rfl)
theorem dX8_led_5 : decode cX8_led 5 = .ok (.aload_n 0, 1) := dk_42 (dk_at dksX8_led_0 5 rfl rfl)
theorem dX8_led_6 : decode cX8_led 6 = .ok (.aload_n 0, 1) := dk_42 (dk_at dksX8_led_0 6 rfl rfl)
theorem dX8_led_7 : decode cX8_led 7 = .ok (.iload_n 1, 1) := dk_27 (dk_at dksX8_led_0 7 rfl rfl)
theorem dX8_led_8 : decode cX8_led 8 = .ok (.invokevirtual 433, 3) := dk_182 1 177 (dk_at dksX8_led_0 8 rfl rfl)
theorem dX8_led_11 : decode cX8_led 11 = .ok (.iconst 1, 1) := dk_4 (dk_at dksX8_led_0 11 rfl rfl)
theorem dX8_led_12 : decode cX8_led 12 = .ok (.invokevirtual 280, 3) := dk_182 1 24 (dk_at dksX8_led_0 12 rfl rfl)
theorem dX8_led_15 : decode cX8_led 15 = .ok (.ifCond .eq 5, 3) := dk_153 0 5 (dk_at dksX8_led_0 15 rfl rfl)
theorem dX8_led_18 : decode cX8_led 18 = .ok (.iconst 0, 1) := dk_3 (dk_at dksX8_led_0 18 rfl rfl)
theorem dX8_led_19 : decode cX8_led 19 = .ok (.ireturn, 1) := dk_172 (dk_at dksX8_led_0 19 rfl rfl)
theorem dX8_led_20 : decode cX8_led 20 = .ok (.iconst 0, 1) := dk_3 (dk_at dksX8_led_0 20 rfl rfl)
theorem dX8_led_21 : decode cX8_led 21 = .ok (.istore_n 3, 1) := dk_62 (dk_at dksX8_led_0 21 rfl rfl)
theorem dX8_led_22 : decode cX8_led 22 = .ok (.iconst (-1), 1) := dk_2 (dk_at dksX8_led_0 22 rfl rfl)
theorem dX8_led_23 : decode cX8_led 23 = .ok (.istore 4, 2) := dk_54 4 (dk_at dksX8_led_1 0 rfl rfl)
theorem dX8_led_25 : decode cX8_led 25 = .ok (.aload_n 0, 1) := dk_42 (dk_at dksX8_led_1 2 rfl rfl)
theorem dX8_led_26 : decode cX8_led 26 = .ok (.getfield 13, 3) := dk_180 0 13 (dk_at dksX8_led_1 3 rfl rfl)
theorem dX8_led_29 : decode cX8_led 29 = .ok (.bipush 10, 2) := dk_16 10 (dk_at dksX8_led_1 6 rfl rfl)
theorem dX8_led_31 : decode cX8_led 31 = .ok (.iaload, 1) := dk_46 (dk_at dksX8_led_1 8 rfl rfl)
theorem dX8_led_32 : decode cX8_led 32 = .ok (.iconst 1, 1) := dk_4 (dk_at dksX8_led_1 9 rfl rfl)
theorem dX8_led_33 : decode cX8_led 33 = .ok (.isub, 1) := dk_100 (dk_at dksX8_led_1 10 rfl rfl)
theorem dX8_led_34 : decode cX8_led 34 = .ok (.istore 5, 2) := dk_54 5 (dk_at dksX8_led_1 11 rfl rfl)
theorem dX8_led_36 : decode cX8_led 36 = .ok (.iload 5, 2) := dk_21 5 (dk_at dksX8_led_1 13 rfl rfl)
theorem dX8_led_38 : decode cX8_led 38 = .ok (.ifCond .lt 35, 3) := dk_155 0 35 (dk_at dksX8_led_1 15 rfl rfl)
theorem dX8_led_41 : decode cX8_led 41 = .ok (.aload_n 0, 1) := dk_42 (dk_at dksX8_led_1 18 rfl rfl)
theorem dX8_led_42 : decode cX8_led 42 = .ok (.iload 5, 2) := dk_21 5 (dk_at dksX8_led_1 19 rfl rfl)
theorem dX8_led_44 : decode cX8_led 44 = .ok (.iconst 1, 1) := dk_4 (dk_at dksX8_led_1 21 rfl rfl)
theorem dX8_led_45 : decode cX8_led 45 = .ok (.invokevirtual 553, 3) := dk_182 2 41 (dk_at dksX8_led_2 0 rfl rfl)
theorem dX8_led_48 : decode cX8_led 48 = .ok (.iload_n 1, 1) := dk_27 (dk_at dksX8_led_2 3 rfl rfl)
theorem dX8_led_49 : decode cX8_led 49 = .ok (.if_icmp .eq 6, 3) := dk_159 0 6 (dk_at dksX8_led_2 4 rfl rfl)
theorem dX8_led_52 : decode cX8_led 52 = .ok (.goto 15, 3) := dk_167 0 15 (dk_at dksX8_led_2 7 rfl rfl)
theorem dX8_led_55 : decode cX8_led 55 = .ok (.iinc 3 1, 3) := dk_132 3 1 (dk_at dksX8_led_2 10 rfl rfl)
theorem dX8_led_58 : decode cX8_led 58 = .ok (.aload_n 0, 1) := dk_42 (dk_at dksX8_led_2 13 rfl rfl)
theorem dX8_led_59 : decode cX8_led 59 = .ok (.iload 5, 2) := dk_21 5 (dk_at dksX8_led_2 14 rfl rfl)
theorem dX8_led_61 : decode cX8_led 61 = .ok (.iconst 0, 1) := dk_3 (dk_at dksX8_led_2 16 rfl rfl)
theorem dX8_led_62 : decode cX8_led 62 = .ok (.invokevirtual 553, 3) := dk_182 2 41 (dk_at dksX8_led_2 17 rfl rfl)
theorem dX8_led_65 : decode cX8_led 65 = .ok (.istore 4, 2) := dk_54 4 (dk_at dksX8_led_2 20 rfl rfl)
theorem dX8_led_67 : decode cX8_led 67 = .ok (.iinc 5 (-1), 3) := dk_132 5 255 (dk_at dksX8_led_3 0 rfl rfl)
theorem dX8_led_70 : decode cX8_led 70 = .ok (.goto (-34), 3) := dk_167 255 222 (dk_at dksX8_led_3 3 rfl rfl)
theorem dX8_led_73 : decode cX8_led 73 = .ok (.iload_n 2, 1) := dk_28 (dk_at dksX8_led_3 6 rfl rfl)
theorem dX8_led_74 : decode cX8_led 74 = .ok (.ifCond .eq 8, 3) := dk_153 0 8 (dk_at dksX8_led_3 7 rfl rfl)
theorem dX8_led_77 : decode cX8_led 77 = .ok (.iload 4, 2) := dk_21 4 (dk_at dksX8_led_3 10 rfl rfl)
theorem dX8_led_79 : decode cX8_led 79 = .ok (.goto 4, 3) := dk_167 0 4 (dk_at dksX8_led_3 12 rfl rfl)
theorem dX8_led_82 : decode cX8_led 82 = .ok (.iload_n 3, 1) := dk_29 (dk_at dksX8_led_3 15 rfl rfl)
theorem dX8_led_83 : decode cX8_led 83 = .ok (.ireturn, 1) := dk_172 (dk_at dksX8_led_3 16 rfl rfl)
abbrev cX8_ofLog : ByteArray := prog_19_method_158_code
def yX8_ofLog : MethodName := ⟨RX8, "ofLog", "(II)I"⟩
def dkwX8_ofLog_0 : List UInt8 := [42, 180, 0, 13, 17, 0, 128, 7, 27, 104, 96, 28, 96, 46, 172]
abbrev dktX8_ofLog_0 : List UInt8 := dkwX8_ofLog_0 ++ []
theorem dksX8_ofLog_0 : cX8_ofLog.data.toList.drop 0 = dktX8_ofLog_0 := by decide +kernel
theorem dX8_ofLog_0 : decode cX8_ofLog 0 = .ok (.aload_n 0, 1) := dk_42 (dk_at dksX8_ofLog_0 0 rfl rfl)
theorem dX8_ofLog_1 : decode cX8_ofLog 1 = .ok (.getfield 13, 3) := dk_180 0 13 (dk_at dksX8_ofLog_0 1 rfl rfl)
theorem dX8_ofLog_4 : decode cX8_ofLog 4 = .ok (.sipush 128, 3) := dk_17 0 128 (dk_at dksX8_ofLog_0 4 rfl rfl)
theorem dX8_ofLog_7 : decode cX8_ofLog 7 = .ok (.iconst 4, 1) := dk_7 (dk_at dksX8_ofLog_0 7 rfl rfl)
theorem dX8_ofLog_8 : decode cX8_ofLog 8 = .ok (.iload_n 1, 1) := dk_27 (dk_at dksX8_ofLog_0 8 rfl rfl)
theorem dX8_ofLog_9 : decode cX8_ofLog 9 = .ok (.imul, 1) := dk_104 (dk_at dksX8_ofLog_0 9 rfl rfl)
theorem dX8_ofLog_10 : decode cX8_ofLog 10 = .ok (.iadd, 1) := dk_96 (dk_at dksX8_ofLog_0 10 rfl rfl)
theorem dX8_ofLog_11 : decode cX8_ofLog 11 = .ok (.iload_n 2, 1) := dk_28 (dk_at dksX8_ofLog_0 11 rfl rfl)
theorem dX8_ofLog_12 : decode cX8_ofLog 12 = .ok (.iadd, 1) := dk_96 (dk_at dksX8_ofLog_0 12 rfl rfl)
theorem dX8_ofLog_13 : decode cX8_ofLog 13 = .ok (.iaload, 1) := dk_46 (dk_at dksX8_ofLog_0 13 rfl rfl)
theorem dX8_ofLog_14 : decode cX8_ofLog 14 = .ok (.ireturn, 1) := dk_172 (dk_at dksX8_ofLog_0 14 rfl rfl)
abbrev cX8_log : ByteArray := prog_19_method_160_code
def yX8_log : MethodName := ⟨RX8, "log", "(II)I"⟩
def dkwX8_log_2 : List UInt8 := [28, 182, 2, 41, 167, 0, 5, 16, 254, 172]
abbrev dktX8_log_2 : List UInt8 := dkwX8_log_2 ++ []
def dkwX8_log_1 : List UInt8 := [153, 0, 5, 3, 172, 27, 3, 42, 180, 0, 13, 16, 10, 46, 4, 100, 184, 0, 88, 153, 0, 12, 42, 27]
abbrev dktX8_log_1 : List UInt8 := dkwX8_log_1 ++ dktX8_log_2
def dkwX8_log_0 : List UInt8 := [42, 3, 181, 0, 3, 42, 28, 3, 6, 184, 0, 88, 154, 0, 7, 4, 167, 0, 4, 3, 4, 182, 1, 24]
abbrev dktX8_log_0 : List UInt8 := dkwX8_log_0 ++ dktX8_log_1
theorem dksX8_log_0 : cX8_log.data.toList.drop 0 = dktX8_log_0 := by decide +kernel
theorem dksX8_log_1 : cX8_log.data.toList.drop 24 = dktX8_log_1 := dk_seg dksX8_log_0 24 rfl rfl
theorem dksX8_log_2 : cX8_log.data.toList.drop 48 = dktX8_log_2 := dk_seg dksX8_log_1 24 rfl rfl
theorem dX8_log_0 : decode cX8_log 0 = .ok (.aload_n 0, 1) := dk_42 (dk_at dksX8_log_0 0 rfl rfl)
theorem dX8_log_1 : decode cX8_log 1 = .ok (.iconst 0, 1) := dk_3 (dk_at dksX8_log_0 1 rfl rfl)
theorem dX8_log_2 : decode cX8_log 2 = .ok (.putfield 3, 3) := dk_181 0 3 (dk_at dksX8_log_0 2 rfl rfl)
theorem dX8_log_5 : decode cX8_log 5 = .ok (.aload_n 0, 1) := dk_42 (dk_at dksX8_log_0 5 rfl rfl)
theorem dX8_log_6 : decode cX8_log 6 = .ok (.iload_n 2, 1) := dk_28 (dk_at dksX8_log_0 6 rfl rfl)
theorem dX8_log_7 : decode cX8_log 7 = .ok (.iconst 0, 1) := dk_3 (dk_at dksX8_log_0 7 rfl rfl)
theorem dX8_log_8 : decode cX8_log 8 = .ok (.iconst 3, 1) := dk_6 (dk_at dksX8_log_0 8 rfl rfl)
theorem dX8_log_9 : decode cX8_log 9 = .ok (.invokestatic 88, 3) := dk_184 0 88 (dk_at dksX8_log_0 9 rfl rfl)
theorem dX8_log_12 : decode cX8_log 12 = .ok (.ifCond .ne 7, 3) := dk_154 0 7 (dk_at dksX8_log_0 12 rfl rfl)
theorem dX8_log_15 : decode cX8_log 15 = .ok (.iconst 1, 1) := dk_4 (dk_at dksX8_log_0 15 rfl rfl)
theorem dX8_log_16 : decode cX8_log 16 = .ok (.goto 4, 3) := dk_167 0 4 (dk_at dksX8_log_0 16 rfl rfl)
theorem dX8_log_19 : decode cX8_log 19 = .ok (.iconst 0, 1) := dk_3 (dk_at dksX8_log_0 19 rfl rfl)
theorem dX8_log_20 : decode cX8_log 20 = .ok (.iconst 1, 1) := dk_4 (dk_at dksX8_log_0 20 rfl rfl)
theorem dX8_log_21 : decode cX8_log 21 = .ok (.invokevirtual 280, 3) := dk_182 1 24 (dk_at dksX8_log_0 21 rfl rfl)
theorem dX8_log_24 : decode cX8_log 24 = .ok (.ifCond .eq 5, 3) := dk_153 0 5 (dk_at dksX8_log_1 0 rfl rfl)
theorem dX8_log_27 : decode cX8_log 27 = .ok (.iconst 0, 1) := dk_3 (dk_at dksX8_log_1 3 rfl rfl)
theorem dX8_log_28 : decode cX8_log 28 = .ok (.ireturn, 1) := dk_172 (dk_at dksX8_log_1 4 rfl rfl)
theorem dX8_log_29 : decode cX8_log 29 = .ok (.iload_n 1, 1) := dk_27 (dk_at dksX8_log_1 5 rfl rfl)
theorem dX8_log_30 : decode cX8_log 30 = .ok (.iconst 0, 1) := dk_3 (dk_at dksX8_log_1 6 rfl rfl)
theorem dX8_log_31 : decode cX8_log 31 = .ok (.aload_n 0, 1) := dk_42 (dk_at dksX8_log_1 7 rfl rfl)
theorem dX8_log_32 : decode cX8_log 32 = .ok (.getfield 13, 3) := dk_180 0 13 (dk_at dksX8_log_1 8 rfl rfl)
theorem dX8_log_35 : decode cX8_log 35 = .ok (.bipush 10, 2) := dk_16 10 (dk_at dksX8_log_1 11 rfl rfl)
theorem dX8_log_37 : decode cX8_log 37 = .ok (.iaload, 1) := dk_46 (dk_at dksX8_log_1 13 rfl rfl)
theorem dX8_log_38 : decode cX8_log 38 = .ok (.iconst 1, 1) := dk_4 (dk_at dksX8_log_1 14 rfl rfl)
theorem dX8_log_39 : decode cX8_log 39 = .ok (.isub, 1) := dk_100 (dk_at dksX8_log_1 15 rfl rfl)
theorem dX8_log_40 : decode cX8_log 40 = .ok (.invokestatic 88, 3) := dk_184 0 88 (dk_at dksX8_log_1 16 rfl rfl)
theorem dX8_log_43 : decode cX8_log 43 = .ok (.ifCond .eq 12, 3) := dk_153 0 12 (dk_at dksX8_log_1 19 rfl rfl)
theorem dX8_log_46 : decode cX8_log 46 = .ok (.aload_n 0, 1) := dk_42 (dk_at dksX8_log_1 22 rfl rfl)
theorem dX8_log_47 : decode cX8_log 47 = .ok (.iload_n 1, 1) := dk_27 (dk_at dksX8_log_1 23 rfl rfl)
theorem dX8_log_48 : decode cX8_log 48 = .ok (.iload_n 2, 1) := dk_28 (dk_at dksX8_log_2 0 rfl rfl)
theorem dX8_log_49 : decode cX8_log 49 = .ok (.invokevirtual 553, 3) := dk_182 2 41 (dk_at dksX8_log_2 1 rfl rfl)
theorem dX8_log_52 : decode cX8_log 52 = .ok (.goto 5, 3) := dk_167 0 5 (dk_at dksX8_log_2 4 rfl rfl)
theorem dX8_log_55 : decode cX8_log 55 = .ok (.bipush (-2), 2) := dk_16 254 (dk_at dksX8_log_2 7 rfl rfl)
theorem dX8_log_57 : decode cX8_log 57 = .ok (.ireturn, 1) := dk_172 (dk_at dksX8_log_2 9 rfl rfl)
abbrev cX8_seed : ByteArray := prog_19_method_161_code
def yX8_seed : MethodName := ⟨RX8, "seed", "(I)I"⟩
def dkwX8_seed_0 : List UInt8 := [42, 3, 181, 0, 3, 42, 180, 0, 13, 16, 11, 46, 61, 42, 180, 0, 13, 16, 11, 27, 79, 28, 172]
abbrev dktX8_seed_0 : List UInt8 := dkwX8_seed_0 ++ []
theorem dksX8_seed_0 : cX8_seed.data.toList.drop 0 = dktX8_seed_0 := by decide +kernel
theorem dX8_seed_0 : decode cX8_seed 0 = .ok (.aload_n 0, 1) := dk_42 (dk_at dksX8_seed_0 0 rfl rfl)
theorem dX8_seed_1 : decode cX8_seed 1 = .ok (.iconst 0, 1) := dk_3 (dk_at dksX8_seed_0 1 rfl rfl)
theorem dX8_seed_2 : decode cX8_seed 2 = .ok (.putfield 3, 3) := dk_181 0 3 (dk_at dksX8_seed_0 2 rfl rfl)
theorem dX8_seed_5 : decode cX8_seed 5 = .ok (.aload_n 0, 1) := dk_42 (dk_at dksX8_seed_0 5 rfl rfl)
theorem dX8_seed_6 : decode cX8_seed 6 = .ok (.getfield 13, 3) := dk_180 0 13 (dk_at dksX8_seed_0 6 rfl rfl)
theorem dX8_seed_9 : decode cX8_seed 9 = .ok (.bipush 11, 2) := dk_16 11 (dk_at dksX8_seed_0 9 rfl rfl)
theorem dX8_seed_11 : decode cX8_seed 11 = .ok (.iaload, 1) := dk_46 (dk_at dksX8_seed_0 11 rfl rfl)
theorem dX8_seed_12 : decode cX8_seed 12 = .ok (.istore_n 2, 1) := dk_61 (dk_at dksX8_seed_0 12 rfl rfl)
theorem dX8_seed_13 : decode cX8_seed 13 = .ok (.aload_n 0, 1) := dk_42 (dk_at dksX8_seed_0 13 rfl rfl)
theorem dX8_seed_14 : decode cX8_seed 14 = .ok (.getfield 13, 3) := dk_180 0 13 (dk_at dksX8_seed_0 14 rfl rfl)
theorem dX8_seed_17 : decode cX8_seed 17 = .ok (.bipush 11, 2) := dk_16 11 (dk_at dksX8_seed_0 17 rfl rfl)
theorem dX8_seed_19 : decode cX8_seed 19 = .ok (.iload_n 1, 1) := dk_27 (dk_at dksX8_seed_0 19 rfl rfl)
theorem dX8_seed_20 : decode cX8_seed 20 = .ok (.iastore, 1) := dk_79 (dk_at dksX8_seed_0 20 rfl rfl)
theorem dX8_seed_21 : decode cX8_seed 21 = .ok (.iload_n 2, 1) := dk_28 (dk_at dksX8_seed_0 21 rfl rfl)
theorem dX8_seed_22 : decode cX8_seed 22 = .ok (.ireturn, 1) := dk_172 (dk_at dksX8_seed_0 22 rfl rfl)
abbrev cX8_count : ByteArray := prog_19_method_162_code
def yX8_count : MethodName := ⟨RX8, "count", "(I)I"⟩
def dkwX8_count_4 : List UInt8 := [180, 0, 13, 27, 46, 167, 0, 4, 2, 172]
abbrev dktX8_count_4 : List UInt8 := dkwX8_count_4 ++ []
def dkwX8_count_3 : List UInt8 := [180, 0, 13, 8, 46, 5, 108, 172, 42, 180, 0, 71, 172, 27, 3, 16, 10, 184, 0, 88, 153, 0, 12, 42]
abbrev dktX8_count_3 : List UInt8 := dkwX8_count_3 ++ dktX8_count_4
def dkwX8_count_2 : List UInt8 := [42, 180, 0, 13, 5, 46, 4, 160, 0, 14, 42, 180, 0, 13, 17, 1, 112, 46, 167, 0, 4, 2, 172, 42]
abbrev dktX8_count_2 : List UInt8 := dkwX8_count_2 ++ dktX8_count_3
def dkwX8_count_1 : List UInt8 := [171, 0, 0, 0, 0, 71, 0, 0, 0, 3, 0, 0, 0, 2, 0, 0, 0, 34, 0, 0, 0, 5, 0, 0, 0, 57, 0, 0, 0, 11, 0, 0, 0, 66]
abbrev dktX8_count_1 : List UInt8 := dkwX8_count_1 ++ dktX8_count_2
def dkwX8_count_0 : List UInt8 := [42, 3, 181, 0, 3, 27]
abbrev dktX8_count_0 : List UInt8 := dkwX8_count_0 ++ dktX8_count_1
theorem dksX8_count_0 : cX8_count.data.toList.drop 0 = dktX8_count_0 := by decide +kernel
theorem dksX8_count_1 : cX8_count.data.toList.drop 6 = dktX8_count_1 := dk_seg dksX8_count_0 6 rfl rfl
theorem dksX8_count_2 : cX8_count.data.toList.drop 40 = dktX8_count_2 := dk_seg dksX8_count_1 34 rfl rfl
theorem dksX8_count_3 : cX8_count.data.toList.drop 64 = dktX8_count_3 := dk_seg dksX8_count_2 24 rfl rfl
theorem dksX8_count_4 : cX8_count.data.toList.drop 88 = dktX8_count_4 := dk_seg dksX8_count_3 24 rfl rfl
theorem dX8_count_0 : decode cX8_count 0 = .ok (.aload_n 0, 1) := dk_42 (dk_at dksX8_count_0 0 rfl rfl)
theorem dX8_count_1 : decode cX8_count 1 = .ok (.iconst 0, 1) := dk_3 (dk_at dksX8_count_0 1 rfl rfl)
theorem dX8_count_2 : decode cX8_count 2 = .ok (.putfield 3, 3) := dk_181 0 3 (dk_at dksX8_count_0 2 rfl rfl)
theorem dX8_count_5 : decode cX8_count 5 = .ok (.iload_n 1, 1) := dk_27 (dk_at dksX8_count_0 5 rfl rfl)
theorem dX8_count_6 : decode cX8_count 6 = .ok (.lookupswitch 71 #[(2, 34), (5, 57), (11, 66)], 34) := by decide +kernel
theorem dX8_count_40 : decode cX8_count 40 = .ok (.aload_n 0, 1) := dk_42 (dk_at dksX8_count_2 0 rfl rfl)
theorem dX8_count_41 : decode cX8_count 41 = .ok (.getfield 13, 3) := dk_180 0 13 (dk_at dksX8_count_2 1 rfl rfl)
theorem dX8_count_44 : decode cX8_count 44 = .ok (.iconst 2, 1) := dk_5 (dk_at dksX8_count_2 4 rfl rfl)
theorem dX8_count_45 : decode cX8_count 45 = .ok (.iaload, 1) := dk_46 (dk_at dksX8_count_2 5 rfl rfl)
theorem dX8_count_46 : decode cX8_count 46 = .ok (.iconst 1, 1) := dk_4 (dk_at dksX8_count_2 6 rfl rfl)
theorem dX8_count_47 : decode cX8_count 47 = .ok (.if_icmp .ne 14, 3) := dk_160 0 14 (dk_at dksX8_count_2 7 rfl rfl)
theorem dX8_count_50 : decode cX8_count 50 = .ok (.aload_n 0, 1) := dk_42 (dk_at dksX8_count_2 10 rfl rfl)
theorem dX8_count_51 : decode cX8_count 51 = .ok (.getfield 13, 3) := dk_180 0 13 (dk_at dksX8_count_2 11 rfl rfl)
theorem dX8_count_54 : decode cX8_count 54 = .ok (.sipush 368, 3) := dk_17 1 112 (dk_at dksX8_count_2 14 rfl rfl)
theorem dX8_count_57 : decode cX8_count 57 = .ok (.iaload, 1) := dk_46 (dk_at dksX8_count_2 17 rfl rfl)
theorem dX8_count_58 : decode cX8_count 58 = .ok (.goto 4, 3) := dk_167 0 4 (dk_at dksX8_count_2 18 rfl rfl)
theorem dX8_count_61 : decode cX8_count 61 = .ok (.iconst (-1), 1) := dk_2 (dk_at dksX8_count_2 21 rfl rfl)
theorem dX8_count_62 : decode cX8_count 62 = .ok (.ireturn, 1) := dk_172 (dk_at dksX8_count_2 22 rfl rfl)
theorem dX8_count_63 : decode cX8_count 63 = .ok (.aload_n 0, 1) := dk_42 (dk_at dksX8_count_2 23 rfl rfl)
theorem dX8_count_64 : decode cX8_count 64 = .ok (.getfield 13, 3) := dk_180 0 13 (dk_at dksX8_count_3 0 rfl rfl)
theorem dX8_count_67 : decode cX8_count 67 = .ok (.iconst 5, 1) := dk_8 (dk_at dksX8_count_3 3 rfl rfl)
theorem dX8_count_68 : decode cX8_count 68 = .ok (.iaload, 1) := dk_46 (dk_at dksX8_count_3 4 rfl rfl)
theorem dX8_count_69 : decode cX8_count 69 = .ok (.iconst 2, 1) := dk_5 (dk_at dksX8_count_3 5 rfl rfl)
theorem dX8_count_70 : decode cX8_count 70 = .ok (.idiv, 1) := dk_108 (dk_at dksX8_count_3 6 rfl rfl)
theorem dX8_count_71 : decode cX8_count 71 = .ok (.ireturn, 1) := dk_172 (dk_at dksX8_count_3 7 rfl rfl)
theorem dX8_count_72 : decode cX8_count 72 = .ok (.aload_n 0, 1) := dk_42 (dk_at dksX8_count_3 8 rfl rfl)
theorem dX8_count_73 : decode cX8_count 73 = .ok (.getfield 71, 3) := dk_180 0 71 (dk_at dksX8_count_3 9 rfl rfl)
theorem dX8_count_76 : decode cX8_count 76 = .ok (.ireturn, 1) := dk_172 (dk_at dksX8_count_3 12 rfl rfl)
theorem dX8_count_77 : decode cX8_count 77 = .ok (.iload_n 1, 1) := dk_27 (dk_at dksX8_count_3 13 rfl rfl)
theorem dX8_count_78 : decode cX8_count 78 = .ok (.iconst 0, 1) := dk_3 (dk_at dksX8_count_3 14 rfl rfl)
theorem dX8_count_79 : decode cX8_count 79 = .ok (.bipush 10, 2) := dk_16 10 (dk_at dksX8_count_3 15 rfl rfl)
theorem dX8_count_81 : decode cX8_count 81 = .ok (.invokestatic 88, 3) := dk_184 0 88 (dk_at dksX8_count_3 17 rfl rfl)
theorem dX8_count_84 : decode cX8_count 84 = .ok (.ifCond .eq 12, 3) := dk_153 0 12 (dk_at dksX8_count_3 20 rfl rfl)
theorem dX8_count_87 : decode cX8_count 87 = .ok (.aload_n 0, 1) := dk_42 (dk_at dksX8_count_3 23 rfl rfl)
theorem dX8_count_88 : decode cX8_count 88 = .ok (.getfield 13, 3) := dk_180 0 13 (dk_at dksX8_count_4 0 rfl rfl)
theorem dX8_count_91 : decode cX8_count 91 = .ok (.iload_n 1, 1) := dk_27 (dk_at dksX8_count_4 3 rfl rfl)
theorem dX8_count_92 : decode cX8_count 92 = .ok (.iaload, 1) := dk_46 (dk_at dksX8_count_4 4 rfl rfl)
theorem dX8_count_93 : decode cX8_count 93 = .ok (.goto 4, 3) := dk_167 0 4 (dk_at dksX8_count_4 5 rfl rfl)
theorem dX8_count_96 : decode cX8_count 96 = .ok (.iconst (-1), 1) := dk_2 (dk_at dksX8_count_4 8 rfl rfl)
theorem dX8_count_97 : decode cX8_count 97 = .ok (.ireturn, 1) := dk_172 (dk_at dksX8_count_4 9 rfl rfl)
theorem q162 : (Jvm.Cond.initialized "GuestViewModel") ∈ lw_all := lw_g (lw_at lw_m1 11 rfl) rfl
theorem q1653 : (Jvm.Cond.instanceMethod ({ cls := "GuestViewModel", name := "thrown", desc := "()I" } : Jvm.MethodName)) ∈ lw_all := lw_g (lw_at lw_m7 62 rfl) rfl
theorem q1654 : (Jvm.Cond.selects "GuestViewModel" ({ cls := "GuestViewModel", name := "thrown", desc := "()I" } : Jvm.MethodName) ({ cls := "GuestViewModel", name := "thrown", desc := "()I" } : Jvm.MethodName)) ∈ lw_all := lw_g (lw_at lw_m7 63 rfl) rfl
theorem q1655 : (Jvm.Cond.code ({ cls := "GuestViewModel", name := "thrown", desc := "()I" } : Jvm.MethodName) prog_19_method_1_code (1 : Nat) (Option.some Jvm.ClassFile.FieldType.int)) ∈ lw_all := lw_g (lw_at lw_m7 64 rfl) rfl
theorem q1657 : (Jvm.Cond.instantiable "GuestViewModel" (32 : Nat)) ∈ lw_all := lw_g (lw_at lw_m7 66 rfl) rfl
theorem q1659 : (Jvm.Cond.instanceMethod ({ cls := "GuestViewModel", name := "<init>", desc := "()V" } : Jvm.MethodName)) ∈ lw_all := lw_g (lw_at lw_m7 68 rfl) rfl
theorem q1660 : (Jvm.Cond.code ({ cls := "GuestViewModel", name := "<init>", desc := "()V" } : Jvm.MethodName) prog_19_method_5_code (1 : Nat) (Option.none : Option Jvm.ClassFile.FieldType)) ∈ lw_all := lw_g (lw_at lw_m7 69 rfl) rfl
theorem q1661 : (Jvm.Cond.methodLink "GuestViewModel" (7 : Nat) ({ cls := "java/lang/Object", name := "<init>", desc := "()V" } : Jvm.MethodName)) ∈ lw_all := lw_g (lw_at lw_m7 70 rfl) rfl
theorem q1662 : (Jvm.Cond.methodLink "GuestViewModel" (64 : Nat) ({ cls := "GuestViewModel", name := "bothBoot", desc := "()V" } : Jvm.MethodName)) ∈ lw_all := lw_g (lw_at lw_m7 71 rfl) rfl
theorem q1663 : (Jvm.Cond.privateMethod ({ cls := "GuestViewModel", name := "bothBoot", desc := "()V" } : Jvm.MethodName)) ∈ lw_tbl := lw_at lw_m7 72 rfl
theorem q1664 : (Jvm.Cond.instanceMethod ({ cls := "GuestViewModel", name := "bothBoot", desc := "()V" } : Jvm.MethodName)) ∈ lw_all := lw_g (lw_at lw_m7 73 rfl) rfl
theorem q1665 : (Jvm.Cond.code ({ cls := "GuestViewModel", name := "bothBoot", desc := "()V" } : Jvm.MethodName) prog_19_method_21_code (3 : Nat) (Option.none : Option Jvm.ClassFile.FieldType)) ∈ lw_all := lw_g (lw_at lw_m7 74 rfl) rfl
theorem q1666 : (Jvm.Cond.methodLink "GuestViewModel" (81 : Nat) ({ cls := "GuestViewModel", name := "guestAt", desc := "(II)I" } : Jvm.MethodName)) ∈ lw_all := lw_g (lw_at lw_m7 75 rfl) rfl
theorem q1667 : (Jvm.Cond.static ({ cls := "GuestViewModel", name := "guestAt", desc := "(II)I" } : Jvm.MethodName)) ∈ lw_all := lw_g (lw_at lw_m7 76 rfl) rfl
theorem q1668 : (Jvm.Cond.code ({ cls := "GuestViewModel", name := "guestAt", desc := "(II)I" } : Jvm.MethodName) prog_19_method_17_code (2 : Nat) (Option.some Jvm.ClassFile.FieldType.int)) ∈ lw_all := lw_g (lw_at lw_m7 77 rfl) rfl
theorem q1669 : (Jvm.Cond.fieldLink "GuestViewModel" (3 : Nat) "GuestViewModel" "thrown" "I") ∈ lw_all := lw_g (lw_at lw_m7 78 rfl) rfl
theorem q1670 : (Jvm.Cond.fieldLink "GuestViewModel" (13 : Nat) "GuestViewModel" "world" "[I") ∈ lw_all := lw_g (lw_at lw_m7 79 rfl) rfl
theorem q1671 : (Jvm.Cond.fieldLink "GuestViewModel" (17 : Nat) "GuestViewModel" "image" "[I") ∈ lw_all := lw_g (lw_at lw_m7 80 rfl) rfl
theorem q1672 : (Jvm.Cond.fieldLink "GuestViewModel" (20 : Nat) "GuestViewModel" "earlier" "[I") ∈ lw_all := lw_g (lw_at lw_m7 81 rfl) rfl
theorem q1673 : (Jvm.Cond.fieldLink "GuestViewModel" (23 : Nat) "GuestViewModel" "trial" "[I") ∈ lw_all := lw_g (lw_at lw_m7 82 rfl) rfl
theorem q1674 : (Jvm.Cond.fieldLink "GuestViewModel" (26 : Nat) "GuestViewModel" "acts" "[I") ∈ lw_all := lw_g (lw_at lw_m7 83 rfl) rfl
theorem q1675 : (Jvm.Cond.fieldLink "GuestViewModel" (67 : Nat) "GuestViewModel" "hasImage" "Z") ∈ lw_all := lw_g (lw_at lw_m7 84 rfl) rfl
theorem q1676 : (Jvm.Cond.fieldLink "GuestViewModel" (71 : Nat) "GuestViewModel" "remembered" "I") ∈ lw_all := lw_g (lw_at lw_m7 85 rfl) rfl
theorem q1677 : (Jvm.Cond.fieldLink "GuestViewModel" (29 : Nat) "GuestViewModel" "tape" "[B") ∈ lw_all := lw_g (lw_at lw_m7 86 rfl) rfl
theorem q1678 : (Jvm.Cond.fieldLink "GuestViewModel" (93 : Nat) "GuestViewModel" "taped" "I") ∈ lw_all := lw_g (lw_at lw_m7 87 rfl) rfl
theorem q1679 : (Jvm.Cond.fieldLink "GuestViewModel" (96 : Nat) "GuestViewModel" "point" "I") ∈ lw_all := lw_g (lw_at lw_m7 88 rfl) rfl
theorem q1680 : (Jvm.Cond.fieldLink "GuestViewModel" (99 : Nat) "GuestViewModel" "end" "I") ∈ lw_all := lw_g (lw_at lw_m7 89 rfl) rfl
theorem q1681 : (Jvm.Cond.fieldLink "GuestViewModel" (106 : Nat) "GuestViewModel" "begin" "I") ∈ lw_all := lw_g (lw_at lw_m7 90 rfl) rfl
theorem q1682 : (Jvm.Cond.fieldLink "GuestViewModel" (234 : Nat) "GuestViewModel" "deep" "I") ∈ lw_all := lw_g (lw_at lw_m7 91 rfl) rfl
theorem q1683 : (Jvm.Cond.fieldLink "GuestViewModel" (33 : Nat) "GuestViewModel" "faultAt" "I") ∈ lw_all := lw_g (lw_at lw_m7 92 rfl) rfl
theorem q1684 : (Jvm.Cond.fieldLink "GuestViewModel" (36 : Nat) "GuestViewModel" "five" "[I") ∈ lw_all := lw_g (lw_at lw_m7 93 rfl) rfl
theorem q1685 : (Jvm.Cond.fieldLink "GuestViewModel" (202 : Nat) "GuestViewModel" "codes" "I") ∈ lw_all := lw_g (lw_at lw_m7 94 rfl) rfl
theorem q1686 : (Jvm.Cond.fieldLink "GuestViewModel" (39 : Nat) "GuestViewModel" "cells" "[I") ∈ lw_all := lw_g (lw_at lw_m7 95 rfl) rfl
theorem q1687 : (Jvm.Cond.fieldLink "GuestViewModel" (42 : Nat) "GuestViewModel" "otherCells" "[I") ∈ lw_all := lw_g (lw_at lw_m7 96 rfl) rfl
theorem q1688 : (Jvm.Cond.fieldLink "GuestViewModel" (286 : Nat) "GuestViewModel" "reg" "I") ∈ lw_all := lw_g (lw_at lw_m7 97 rfl) rfl
theorem q1689 : (Jvm.Cond.fieldLink "GuestViewModel" (289 : Nat) "GuestViewModel" "mode" "I") ∈ lw_all := lw_g (lw_at lw_m7 98 rfl) rfl
theorem q1690 : (Jvm.Cond.fieldLink "GuestViewModel" (283 : Nat) "GuestViewModel" "base" "I") ∈ lw_all := lw_g (lw_at lw_m7 99 rfl) rfl
theorem q1691 : (Jvm.Cond.fieldLink "GuestViewModel" (292 : Nat) "GuestViewModel" "clock" "I") ∈ lw_all := lw_g (lw_at lw_m7 100 rfl) rfl
theorem q1692 : (Jvm.Cond.fieldLink "GuestViewModel" (295 : Nat) "GuestViewModel" "skipped" "Z") ∈ lw_all := lw_g (lw_at lw_m7 101 rfl) rfl
theorem q1693 : (Jvm.Cond.fieldLink "GuestViewModel" (328 : Nat) "GuestViewModel" "wasReg" "I") ∈ lw_all := lw_g (lw_at lw_m7 102 rfl) rfl
theorem q1694 : (Jvm.Cond.fieldLink "GuestViewModel" (331 : Nat) "GuestViewModel" "wasSkipped" "Z") ∈ lw_all := lw_g (lw_at lw_m7 103 rfl) rfl
theorem q1695 : (Jvm.Cond.fieldLink "GuestViewModel" (45 : Nat) "GuestViewModel" "traits" "[I") ∈ lw_all := lw_g (lw_at lw_m7 104 rfl) rfl
theorem q1696 : (Jvm.Cond.fieldLink "GuestViewModel" (48 : Nat) "GuestViewModel" "known" "[J") ∈ lw_all := lw_g (lw_at lw_m7 105 rfl) rfl
theorem q1697 : (Jvm.Cond.fieldLink "GuestViewModel" (52 : Nat) "GuestViewModel" "value" "[I") ∈ lw_all := lw_g (lw_at lw_m7 106 rfl) rfl
theorem q1698 : (Jvm.Cond.fieldLink "GuestViewModel" (55 : Nat) "GuestViewModel" "more" "[I") ∈ lw_all := lw_g (lw_at lw_m7 107 rfl) rfl
theorem q1699 : (Jvm.Cond.fieldLink "GuestViewModel" (58 : Nat) "GuestViewModel" "paired" "[I") ∈ lw_all := lw_g (lw_at lw_m7 108 rfl) rfl
theorem q1700 : (Jvm.Cond.fieldLink "GuestViewModel" (61 : Nat) "GuestViewModel" "ways" "[J") ∈ lw_all := lw_g (lw_at lw_m7 109 rfl) rfl
theorem q1701 : (Jvm.Cond.lays "GuestViewModel" "GuestViewModel" "thrown" "I") ∈ lw_all := lw_g (lw_at lw_m7 110 rfl) rfl
theorem q1702 : (Jvm.Cond.soleField "GuestViewModel" "thrown") ∈ lw_all := lw_g (lw_at lw_m7 111 rfl) rfl
theorem q1703 : (Jvm.Cond.laysFinal "GuestViewModel" "GuestViewModel" "world" "[I") ∈ lw_all := lw_g (lw_at lw_m7 112 rfl) rfl
theorem q1704 : (Jvm.Cond.soleField "GuestViewModel" "world") ∈ lw_all := lw_g (lw_at lw_m7 113 rfl) rfl
theorem q1705 : (Jvm.Cond.laysFinal "GuestViewModel" "GuestViewModel" "image" "[I") ∈ lw_all := lw_g (lw_at lw_m7 114 rfl) rfl
theorem q1706 : (Jvm.Cond.soleField "GuestViewModel" "image") ∈ lw_all := lw_g (lw_at lw_m7 115 rfl) rfl
theorem q1707 : (Jvm.Cond.laysFinal "GuestViewModel" "GuestViewModel" "earlier" "[I") ∈ lw_all := lw_g (lw_at lw_m7 116 rfl) rfl
theorem q1708 : (Jvm.Cond.soleField "GuestViewModel" "earlier") ∈ lw_all := lw_g (lw_at lw_m7 117 rfl) rfl
theorem q1709 : (Jvm.Cond.laysFinal "GuestViewModel" "GuestViewModel" "trial" "[I") ∈ lw_all := lw_g (lw_at lw_m7 118 rfl) rfl
theorem q1710 : (Jvm.Cond.soleField "GuestViewModel" "trial") ∈ lw_all := lw_g (lw_at lw_m7 119 rfl) rfl
theorem q1711 : (Jvm.Cond.laysFinal "GuestViewModel" "GuestViewModel" "acts" "[I") ∈ lw_all := lw_g (lw_at lw_m7 120 rfl) rfl
theorem q1712 : (Jvm.Cond.soleField "GuestViewModel" "acts") ∈ lw_all := lw_g (lw_at lw_m7 121 rfl) rfl
theorem q1713 : (Jvm.Cond.lays "GuestViewModel" "GuestViewModel" "hasImage" "Z") ∈ lw_all := lw_g (lw_at lw_m7 122 rfl) rfl
theorem q1714 : (Jvm.Cond.soleField "GuestViewModel" "hasImage") ∈ lw_all := lw_g (lw_at lw_m7 123 rfl) rfl
theorem q1715 : (Jvm.Cond.lays "GuestViewModel" "GuestViewModel" "remembered" "I") ∈ lw_all := lw_g (lw_at lw_m7 124 rfl) rfl
theorem q1716 : (Jvm.Cond.soleField "GuestViewModel" "remembered") ∈ lw_all := lw_g (lw_at lw_m7 125 rfl) rfl
theorem q1717 : (Jvm.Cond.laysFinal "GuestViewModel" "GuestViewModel" "tape" "[B") ∈ lw_all := lw_g (lw_at lw_m7 126 rfl) rfl
theorem q1718 : (Jvm.Cond.soleField "GuestViewModel" "tape") ∈ lw_all := lw_g (lw_at lw_m7 127 rfl) rfl
theorem q1719 : (Jvm.Cond.lays "GuestViewModel" "GuestViewModel" "taped" "I") ∈ lw_all := lw_g (lw_at lw_m7 128 rfl) rfl
theorem q1720 : (Jvm.Cond.soleField "GuestViewModel" "taped") ∈ lw_all := lw_g (lw_at lw_m7 129 rfl) rfl
theorem q1721 : (Jvm.Cond.lays "GuestViewModel" "GuestViewModel" "point" "I") ∈ lw_all := lw_g (lw_at lw_m7 130 rfl) rfl
theorem q1722 : (Jvm.Cond.soleField "GuestViewModel" "point") ∈ lw_all := lw_g (lw_at lw_m7 131 rfl) rfl
theorem q1723 : (Jvm.Cond.lays "GuestViewModel" "GuestViewModel" "end" "I") ∈ lw_all := lw_g (lw_at lw_m7 132 rfl) rfl
theorem q1724 : (Jvm.Cond.soleField "GuestViewModel" "end") ∈ lw_all := lw_g (lw_at lw_m7 133 rfl) rfl
theorem q1725 : (Jvm.Cond.lays "GuestViewModel" "GuestViewModel" "begin" "I") ∈ lw_all := lw_g (lw_at lw_m7 134 rfl) rfl
theorem q1726 : (Jvm.Cond.soleField "GuestViewModel" "begin") ∈ lw_all := lw_g (lw_at lw_m7 135 rfl) rfl
theorem q1727 : (Jvm.Cond.lays "GuestViewModel" "GuestViewModel" "deep" "I") ∈ lw_all := lw_g (lw_at lw_m7 136 rfl) rfl
theorem q1728 : (Jvm.Cond.soleField "GuestViewModel" "deep") ∈ lw_all := lw_g (lw_at lw_m7 137 rfl) rfl
theorem q1729 : (Jvm.Cond.lays "GuestViewModel" "GuestViewModel" "faultAt" "I") ∈ lw_all := lw_g (lw_at lw_m7 138 rfl) rfl
theorem q1730 : (Jvm.Cond.soleField "GuestViewModel" "faultAt") ∈ lw_all := lw_g (lw_at lw_m7 139 rfl) rfl
theorem q1731 : (Jvm.Cond.laysFinal "GuestViewModel" "GuestViewModel" "five" "[I") ∈ lw_all := lw_g (lw_at lw_m7 140 rfl) rfl
theorem q1732 : (Jvm.Cond.soleField "GuestViewModel" "five") ∈ lw_all := lw_g (lw_at lw_m7 141 rfl) rfl
theorem q1733 : (Jvm.Cond.lays "GuestViewModel" "GuestViewModel" "codes" "I") ∈ lw_all := lw_g (lw_at lw_m7 142 rfl) rfl
theorem q1734 : (Jvm.Cond.soleField "GuestViewModel" "codes") ∈ lw_all := lw_g (lw_at lw_m7 143 rfl) rfl
theorem q1735 : (Jvm.Cond.laysFinal "GuestViewModel" "GuestViewModel" "cells" "[I") ∈ lw_all := lw_g (lw_at lw_m7 144 rfl) rfl
theorem q1736 : (Jvm.Cond.soleField "GuestViewModel" "cells") ∈ lw_all := lw_g (lw_at lw_m7 145 rfl) rfl
theorem q1737 : (Jvm.Cond.laysFinal "GuestViewModel" "GuestViewModel" "otherCells" "[I") ∈ lw_all := lw_g (lw_at lw_m7 146 rfl) rfl
theorem q1738 : (Jvm.Cond.soleField "GuestViewModel" "otherCells") ∈ lw_all := lw_g (lw_at lw_m7 147 rfl) rfl
theorem q1739 : (Jvm.Cond.lays "GuestViewModel" "GuestViewModel" "reg" "I") ∈ lw_all := lw_g (lw_at lw_m7 148 rfl) rfl
theorem q1740 : (Jvm.Cond.soleField "GuestViewModel" "reg") ∈ lw_all := lw_g (lw_at lw_m7 149 rfl) rfl
theorem q1741 : (Jvm.Cond.lays "GuestViewModel" "GuestViewModel" "mode" "I") ∈ lw_all := lw_g (lw_at lw_m7 150 rfl) rfl
theorem q1742 : (Jvm.Cond.soleField "GuestViewModel" "mode") ∈ lw_all := lw_g (lw_at lw_m7 151 rfl) rfl
theorem q1743 : (Jvm.Cond.lays "GuestViewModel" "GuestViewModel" "base" "I") ∈ lw_all := lw_g (lw_at lw_m7 152 rfl) rfl
theorem q1744 : (Jvm.Cond.soleField "GuestViewModel" "base") ∈ lw_all := lw_g (lw_at lw_m7 153 rfl) rfl
theorem q1745 : (Jvm.Cond.lays "GuestViewModel" "GuestViewModel" "clock" "I") ∈ lw_all := lw_g (lw_at lw_m7 154 rfl) rfl
theorem q1746 : (Jvm.Cond.soleField "GuestViewModel" "clock") ∈ lw_all := lw_g (lw_at lw_m7 155 rfl) rfl
theorem q1747 : (Jvm.Cond.lays "GuestViewModel" "GuestViewModel" "skipped" "Z") ∈ lw_all := lw_g (lw_at lw_m7 156 rfl) rfl
theorem q1748 : (Jvm.Cond.soleField "GuestViewModel" "skipped") ∈ lw_all := lw_g (lw_at lw_m7 157 rfl) rfl
theorem q1749 : (Jvm.Cond.lays "GuestViewModel" "GuestViewModel" "wasReg" "I") ∈ lw_all := lw_g (lw_at lw_m7 158 rfl) rfl
theorem q1750 : (Jvm.Cond.soleField "GuestViewModel" "wasReg") ∈ lw_all := lw_g (lw_at lw_m7 159 rfl) rfl
theorem q1751 : (Jvm.Cond.lays "GuestViewModel" "GuestViewModel" "wasSkipped" "Z") ∈ lw_all := lw_g (lw_at lw_m7 160 rfl) rfl
theorem q1752 : (Jvm.Cond.soleField "GuestViewModel" "wasSkipped") ∈ lw_all := lw_g (lw_at lw_m7 161 rfl) rfl
theorem q1753 : (Jvm.Cond.laysFinal "GuestViewModel" "GuestViewModel" "traits" "[I") ∈ lw_all := lw_g (lw_at lw_m7 162 rfl) rfl
theorem q1754 : (Jvm.Cond.soleField "GuestViewModel" "traits") ∈ lw_all := lw_g (lw_at lw_m7 163 rfl) rfl
theorem q1755 : (Jvm.Cond.laysFinal "GuestViewModel" "GuestViewModel" "known" "[J") ∈ lw_all := lw_g (lw_at lw_m7 164 rfl) rfl
theorem q1756 : (Jvm.Cond.soleField "GuestViewModel" "known") ∈ lw_all := lw_g (lw_at lw_m7 165 rfl) rfl
theorem q1757 : (Jvm.Cond.laysFinal "GuestViewModel" "GuestViewModel" "value" "[I") ∈ lw_all := lw_g (lw_at lw_m7 166 rfl) rfl
theorem q1758 : (Jvm.Cond.soleField "GuestViewModel" "value") ∈ lw_all := lw_g (lw_at lw_m7 167 rfl) rfl
theorem q1759 : (Jvm.Cond.laysFinal "GuestViewModel" "GuestViewModel" "more" "[I") ∈ lw_all := lw_g (lw_at lw_m7 168 rfl) rfl
theorem q1760 : (Jvm.Cond.soleField "GuestViewModel" "more") ∈ lw_all := lw_g (lw_at lw_m7 169 rfl) rfl
theorem q1761 : (Jvm.Cond.laysFinal "GuestViewModel" "GuestViewModel" "paired" "[I") ∈ lw_all := lw_g (lw_at lw_m7 170 rfl) rfl
theorem q1762 : (Jvm.Cond.soleField "GuestViewModel" "paired") ∈ lw_all := lw_g (lw_at lw_m7 171 rfl) rfl
theorem q1763 : (Jvm.Cond.laysFinal "GuestViewModel" "GuestViewModel" "ways" "[J") ∈ lw_all := lw_g (lw_at lw_m7 172 rfl) rfl
theorem q1764 : (Jvm.Cond.soleField "GuestViewModel" "ways") ∈ lw_all := lw_g (lw_at lw_m7 173 rfl) rfl
theorem q1765 : (Jvm.Cond.superclass "GuestViewModel" "java/lang/Object") ∈ lw_all := lw_g (lw_at lw_m7 174 rfl) rfl
theorem q1768 : (Jvm.Cond.instanceMethod ({ cls := "GuestViewModel", name := "image", desc := "()V" } : Jvm.MethodName)) ∈ lw_all := lw_g (lw_at lw_m7 177 rfl) rfl
theorem q1769 : (Jvm.Cond.selects "GuestViewModel" ({ cls := "GuestViewModel", name := "image", desc := "()V" } : Jvm.MethodName) ({ cls := "GuestViewModel", name := "image", desc := "()V" } : Jvm.MethodName)) ∈ lw_all := lw_g (lw_at lw_m7 178 rfl) rfl
theorem q1770 : (Jvm.Cond.code ({ cls := "GuestViewModel", name := "image", desc := "()V" } : Jvm.MethodName) prog_19_method_6_code (2 : Nat) (Option.none : Option Jvm.ClassFile.FieldType)) ∈ lw_all := lw_g (lw_at lw_m7 179 rfl) rfl
theorem q1772 : (Jvm.Cond.instanceMethod ({ cls := "GuestViewModel", name := "back", desc := "()Z" } : Jvm.MethodName)) ∈ lw_all := lw_g (lw_at lw_m7 181 rfl) rfl
theorem q1773 : (Jvm.Cond.selects "GuestViewModel" ({ cls := "GuestViewModel", name := "back", desc := "()Z" } : Jvm.MethodName) ({ cls := "GuestViewModel", name := "back", desc := "()Z" } : Jvm.MethodName)) ∈ lw_all := lw_g (lw_at lw_m7 182 rfl) rfl
theorem q1774 : (Jvm.Cond.code ({ cls := "GuestViewModel", name := "back", desc := "()Z" } : Jvm.MethodName) prog_19_method_7_code (2 : Nat) (Option.some Jvm.ClassFile.FieldType.boolean)) ∈ lw_all := lw_g (lw_at lw_m7 183 rfl) rfl
theorem q1776 : (Jvm.Cond.instanceMethod ({ cls := "GuestViewModel", name := "undo", desc := "()Z" } : Jvm.MethodName)) ∈ lw_all := lw_g (lw_at lw_m7 185 rfl) rfl
theorem q1777 : (Jvm.Cond.selects "GuestViewModel" ({ cls := "GuestViewModel", name := "undo", desc := "()Z" } : Jvm.MethodName) ({ cls := "GuestViewModel", name := "undo", desc := "()Z" } : Jvm.MethodName)) ∈ lw_all := lw_g (lw_at lw_m7 186 rfl) rfl
theorem q1778 : (Jvm.Cond.code ({ cls := "GuestViewModel", name := "undo", desc := "()Z" } : Jvm.MethodName) prog_19_method_9_code (2 : Nat) (Option.some Jvm.ClassFile.FieldType.boolean)) ∈ lw_all := lw_g (lw_at lw_m7 187 rfl) rfl
theorem q1780 : (Jvm.Cond.instanceMethod ({ cls := "GuestViewModel", name := "feed", desc := "(IIIII)I" } : Jvm.MethodName)) ∈ lw_all := lw_g (lw_at lw_m7 189 rfl) rfl
theorem q1781 : (Jvm.Cond.selects "GuestViewModel" ({ cls := "GuestViewModel", name := "feed", desc := "(IIIII)I" } : Jvm.MethodName) ({ cls := "GuestViewModel", name := "feed", desc := "(IIIII)I" } : Jvm.MethodName)) ∈ lw_all := lw_g (lw_at lw_m7 190 rfl) rfl
theorem q1782 : (Jvm.Cond.code ({ cls := "GuestViewModel", name := "feed", desc := "(IIIII)I" } : Jvm.MethodName) prog_19_method_22_code (7 : Nat) (Option.some Jvm.ClassFile.FieldType.int)) ∈ lw_all := lw_g (lw_at lw_m7 191 rfl) rfl
theorem q1784 : (Jvm.Cond.instanceMethod ({ cls := "GuestViewModel", name := "end", desc := "(I)Z" } : Jvm.MethodName)) ∈ lw_all := lw_g (lw_at lw_m7 193 rfl) rfl
theorem q1785 : (Jvm.Cond.selects "GuestViewModel" ({ cls := "GuestViewModel", name := "end", desc := "(I)Z" } : Jvm.MethodName) ({ cls := "GuestViewModel", name := "end", desc := "(I)Z" } : Jvm.MethodName)) ∈ lw_all := lw_g (lw_at lw_m7 194 rfl) rfl
theorem q1786 : (Jvm.Cond.code ({ cls := "GuestViewModel", name := "end", desc := "(I)Z" } : Jvm.MethodName) prog_19_method_23_code (2 : Nat) (Option.some Jvm.ClassFile.FieldType.boolean)) ∈ lw_all := lw_g (lw_at lw_m7 195 rfl) rfl
theorem q1788 : (Jvm.Cond.instanceMethod ({ cls := "GuestViewModel", name := "fault", desc := "()I" } : Jvm.MethodName)) ∈ lw_all := lw_g (lw_at lw_m7 197 rfl) rfl
theorem q1789 : (Jvm.Cond.selects "GuestViewModel" ({ cls := "GuestViewModel", name := "fault", desc := "()I" } : Jvm.MethodName) ({ cls := "GuestViewModel", name := "fault", desc := "()I" } : Jvm.MethodName)) ∈ lw_all := lw_g (lw_at lw_m7 198 rfl) rfl
theorem q1790 : (Jvm.Cond.code ({ cls := "GuestViewModel", name := "fault", desc := "()I" } : Jvm.MethodName) prog_19_method_32_code (1 : Nat) (Option.some Jvm.ClassFile.FieldType.int)) ∈ lw_all := lw_g (lw_at lw_m7 199 rfl) rfl
theorem q1792 : (Jvm.Cond.instanceMethod ({ cls := "GuestViewModel", name := "bench", desc := "()I" } : Jvm.MethodName)) ∈ lw_all := lw_g (lw_at lw_m7 201 rfl) rfl
theorem q1793 : (Jvm.Cond.selects "GuestViewModel" ({ cls := "GuestViewModel", name := "bench", desc := "()I" } : Jvm.MethodName) ({ cls := "GuestViewModel", name := "bench", desc := "()I" } : Jvm.MethodName)) ∈ lw_all := lw_g (lw_at lw_m7 202 rfl) rfl
theorem q1794 : (Jvm.Cond.code ({ cls := "GuestViewModel", name := "bench", desc := "()I" } : Jvm.MethodName) prog_19_method_54_code (3 : Nat) (Option.some Jvm.ClassFile.FieldType.int)) ∈ lw_all := lw_g (lw_at lw_m7 203 rfl) rfl
theorem q1795 : (Jvm.Cond.methodLink "GuestViewModel" (276 : Nat) ({ cls := "GuestViewModel", name := "readAll", desc := "(Z)I" } : Jvm.MethodName)) ∈ lw_all := lw_g (lw_at lw_m7 204 rfl) rfl
theorem q1796 : (Jvm.Cond.privateMethod ({ cls := "GuestViewModel", name := "readAll", desc := "(Z)I" } : Jvm.MethodName)) ∈ lw_tbl := lw_at lw_m7 205 rfl
theorem q1797 : (Jvm.Cond.instanceMethod ({ cls := "GuestViewModel", name := "readAll", desc := "(Z)I" } : Jvm.MethodName)) ∈ lw_all := lw_g (lw_at lw_m7 206 rfl) rfl
theorem q1798 : (Jvm.Cond.code ({ cls := "GuestViewModel", name := "readAll", desc := "(Z)I" } : Jvm.MethodName) prog_19_method_53_code (3 : Nat) (Option.some Jvm.ClassFile.FieldType.int)) ∈ lw_all := lw_g (lw_at lw_m7 207 rfl) rfl
theorem q1799 : (Jvm.Cond.methodLink "GuestViewModel" (270 : Nat) ({ cls := "GuestViewModel", name := "uses", desc := "()V" } : Jvm.MethodName)) ∈ lw_all := lw_g (lw_at lw_m7 208 rfl) rfl
theorem q1800 : (Jvm.Cond.privateMethod ({ cls := "GuestViewModel", name := "uses", desc := "()V" } : Jvm.MethodName)) ∈ lw_tbl := lw_at lw_m7 209 rfl
theorem q1801 : (Jvm.Cond.instanceMethod ({ cls := "GuestViewModel", name := "uses", desc := "()V" } : Jvm.MethodName)) ∈ lw_all := lw_g (lw_at lw_m7 210 rfl) rfl
theorem q1802 : (Jvm.Cond.code ({ cls := "GuestViewModel", name := "uses", desc := "()V" } : Jvm.MethodName) prog_19_method_33_code (1 : Nat) (Option.none : Option Jvm.ClassFile.FieldType)) ∈ lw_all := lw_g (lw_at lw_m7 211 rfl) rfl
theorem q1803 : (Jvm.Cond.methodLink "GuestViewModel" (109 : Nat) ({ cls := "GuestViewModel", name := "blanks", desc := "()V" } : Jvm.MethodName)) ∈ lw_all := lw_g (lw_at lw_m7 212 rfl) rfl
theorem q1804 : (Jvm.Cond.privateMethod ({ cls := "GuestViewModel", name := "blanks", desc := "()V" } : Jvm.MethodName)) ∈ lw_tbl := lw_at lw_m7 213 rfl
theorem q1805 : (Jvm.Cond.instanceMethod ({ cls := "GuestViewModel", name := "blanks", desc := "()V" } : Jvm.MethodName)) ∈ lw_all := lw_g (lw_at lw_m7 214 rfl) rfl
theorem q1806 : (Jvm.Cond.code ({ cls := "GuestViewModel", name := "blanks", desc := "()V" } : Jvm.MethodName) prog_19_method_25_code (1 : Nat) (Option.none : Option Jvm.ClassFile.FieldType)) ∈ lw_all := lw_g (lw_at lw_m7 215 rfl) rfl
theorem q1807 : (Jvm.Cond.methodLink "GuestViewModel" (102 : Nat) ({ cls := "GuestViewModel", name := "isAt", desc := "(II)Z" } : Jvm.MethodName)) ∈ lw_all := lw_g (lw_at lw_m7 216 rfl) rfl
theorem q1808 : (Jvm.Cond.privateMethod ({ cls := "GuestViewModel", name := "isAt", desc := "(II)Z" } : Jvm.MethodName)) ∈ lw_tbl := lw_at lw_m7 217 rfl
theorem q1809 : (Jvm.Cond.instanceMethod ({ cls := "GuestViewModel", name := "isAt", desc := "(II)Z" } : Jvm.MethodName)) ∈ lw_all := lw_g (lw_at lw_m7 218 rfl) rfl
theorem q1810 : (Jvm.Cond.code ({ cls := "GuestViewModel", name := "isAt", desc := "(II)Z" } : Jvm.MethodName) prog_19_method_24_code (3 : Nat) (Option.some Jvm.ClassFile.FieldType.boolean)) ∈ lw_all := lw_g (lw_at lw_m7 219 rfl) rfl
theorem q1811 : (Jvm.Cond.methodLink "GuestViewModel" (272 : Nat) ({ cls := "GuestViewModel", name := "readLine", desc := "(ZI)Z" } : Jvm.MethodName)) ∈ lw_all := lw_g (lw_at lw_m7 220 rfl) rfl
theorem q1812 : (Jvm.Cond.privateMethod ({ cls := "GuestViewModel", name := "readLine", desc := "(ZI)Z" } : Jvm.MethodName)) ∈ lw_tbl := lw_at lw_m7 221 rfl
theorem q1813 : (Jvm.Cond.instanceMethod ({ cls := "GuestViewModel", name := "readLine", desc := "(ZI)Z" } : Jvm.MethodName)) ∈ lw_all := lw_g (lw_at lw_m7 222 rfl) rfl
theorem q1814 : (Jvm.Cond.code ({ cls := "GuestViewModel", name := "readLine", desc := "(ZI)Z" } : Jvm.MethodName) prog_19_method_52_code (3 : Nat) (Option.some Jvm.ClassFile.FieldType.boolean)) ∈ lw_all := lw_g (lw_at lw_m7 223 rfl) rfl
theorem q1815 : (Jvm.Cond.methodLink "GuestViewModel" (121 : Nat) ({ cls := "GuestViewModel", name := "letters", desc := "()V" } : Jvm.MethodName)) ∈ lw_all := lw_g (lw_at lw_m7 224 rfl) rfl
theorem q1816 : (Jvm.Cond.privateMethod ({ cls := "GuestViewModel", name := "letters", desc := "()V" } : Jvm.MethodName)) ∈ lw_tbl := lw_at lw_m7 225 rfl
theorem q1817 : (Jvm.Cond.instanceMethod ({ cls := "GuestViewModel", name := "letters", desc := "()V" } : Jvm.MethodName)) ∈ lw_all := lw_g (lw_at lw_m7 226 rfl) rfl
theorem q1818 : (Jvm.Cond.code ({ cls := "GuestViewModel", name := "letters", desc := "()V" } : Jvm.MethodName) prog_19_method_26_code (1 : Nat) (Option.none : Option Jvm.ClassFile.FieldType)) ∈ lw_all := lw_g (lw_at lw_m7 227 rfl) rfl
theorem q1819 : (Jvm.Cond.methodLink "GuestViewModel" (264 : Nat) ({ cls := "GuestViewModel", name := "readBenchLine", desc := "()Z" } : Jvm.MethodName)) ∈ lw_all := lw_g (lw_at lw_m7 228 rfl) rfl
theorem q1820 : (Jvm.Cond.privateMethod ({ cls := "GuestViewModel", name := "readBenchLine", desc := "()Z" } : Jvm.MethodName)) ∈ lw_tbl := lw_at lw_m7 229 rfl
theorem q1821 : (Jvm.Cond.instanceMethod ({ cls := "GuestViewModel", name := "readBenchLine", desc := "()Z" } : Jvm.MethodName)) ∈ lw_all := lw_g (lw_at lw_m7 230 rfl) rfl
theorem q1822 : (Jvm.Cond.code ({ cls := "GuestViewModel", name := "readBenchLine", desc := "()Z" } : Jvm.MethodName) prog_19_method_42_code (1 : Nat) (Option.some Jvm.ClassFile.FieldType.boolean)) ∈ lw_all := lw_g (lw_at lw_m7 231 rfl) rfl
theorem q1823 : (Jvm.Cond.stringRef "GuestViewModel" (175 : Nat) "op") ∈ lw_tbl := lw_at lw_m7 232 rfl
theorem q1824 : (Jvm.Cond.methodLink "GuestViewModel" (124 : Nat) ({ cls := "GuestViewModel", name := "isWord", desc := "(Ljava/lang/String;)Z" } : Jvm.MethodName)) ∈ lw_all := lw_g (lw_at lw_m7 233 rfl) rfl
theorem q1825 : (Jvm.Cond.privateMethod ({ cls := "GuestViewModel", name := "isWord", desc := "(Ljava/lang/String;)Z" } : Jvm.MethodName)) ∈ lw_tbl := lw_at lw_m7 234 rfl
theorem q1826 : (Jvm.Cond.instanceMethod ({ cls := "GuestViewModel", name := "isWord", desc := "(Ljava/lang/String;)Z" } : Jvm.MethodName)) ∈ lw_all := lw_g (lw_at lw_m7 235 rfl) rfl
theorem q1827 : (Jvm.Cond.code ({ cls := "GuestViewModel", name := "isWord", desc := "(Ljava/lang/String;)Z" } : Jvm.MethodName) prog_19_method_27_code (4 : Nat) (Option.some Jvm.ClassFile.FieldType.boolean)) ∈ lw_all := lw_g (lw_at lw_m7 236 rfl) rfl
theorem q1828 : (Jvm.Cond.methodLink "GuestViewModel" (112 : Nat) ({ cls := "java/lang/String", name := "length", desc := "()I" } : Jvm.MethodName)) ∈ lw_all := lw_g (lw_at lw_m7 237 rfl) rfl
theorem q1829 : (Jvm.Cond.methodLink "GuestViewModel" (117 : Nat) ({ cls := "java/lang/String", name := "charAt", desc := "(I)C" } : Jvm.MethodName)) ∈ lw_all := lw_g (lw_at lw_m7 238 rfl) rfl
theorem q1830 : (Jvm.Cond.methodLink "GuestViewModel" (177 : Nat) ({ cls := "GuestViewModel", name := "readOp", desc := "()Z" } : Jvm.MethodName)) ∈ lw_all := lw_g (lw_at lw_m7 239 rfl) rfl
theorem q1831 : (Jvm.Cond.privateMethod ({ cls := "GuestViewModel", name := "readOp", desc := "()Z" } : Jvm.MethodName)) ∈ lw_tbl := lw_at lw_m8 0 rfl
theorem q1832 : (Jvm.Cond.instanceMethod ({ cls := "GuestViewModel", name := "readOp", desc := "()Z" } : Jvm.MethodName)) ∈ lw_all := lw_g (lw_at lw_m8 1 rfl) rfl
theorem q1833 : (Jvm.Cond.code ({ cls := "GuestViewModel", name := "readOp", desc := "()Z" } : Jvm.MethodName) prog_19_method_38_code (3 : Nat) (Option.some Jvm.ClassFile.FieldType.boolean)) ∈ lw_all := lw_g (lw_at lw_m8 2 rfl) rfl
theorem q1834 : (Jvm.Cond.methodLink "GuestViewModel" (84 : Nat) ({ cls := "GuestViewModel", name := "ops", desc := "()I" } : Jvm.MethodName)) ∈ lw_all := lw_g (lw_at lw_m8 3 rfl) rfl
theorem q1835 : (Jvm.Cond.privateMethod ({ cls := "GuestViewModel", name := "ops", desc := "()I" } : Jvm.MethodName)) ∈ lw_tbl := lw_at lw_m8 4 rfl
theorem q1836 : (Jvm.Cond.instanceMethod ({ cls := "GuestViewModel", name := "ops", desc := "()I" } : Jvm.MethodName)) ∈ lw_all := lw_g (lw_at lw_m8 5 rfl) rfl
theorem q1837 : (Jvm.Cond.code ({ cls := "GuestViewModel", name := "ops", desc := "()I" } : Jvm.MethodName) prog_19_method_12_code (1 : Nat) (Option.some Jvm.ClassFile.FieldType.int)) ∈ lw_all := lw_g (lw_at lw_m8 6 rfl) rfl
theorem q1838 : (Jvm.Cond.methodLink "GuestViewModel" (74 : Nat) ({ cls := "GuestViewModel", name := "opAt", desc := "(II)I" } : Jvm.MethodName)) ∈ lw_all := lw_g (lw_at lw_m8 7 rfl) rfl
theorem q1839 : (Jvm.Cond.static ({ cls := "GuestViewModel", name := "opAt", desc := "(II)I" } : Jvm.MethodName)) ∈ lw_all := lw_g (lw_at lw_m8 8 rfl) rfl
theorem q1840 : (Jvm.Cond.code ({ cls := "GuestViewModel", name := "opAt", desc := "(II)I" } : Jvm.MethodName) prog_19_method_13_code (2 : Nat) (Option.some Jvm.ClassFile.FieldType.int)) ∈ lw_all := lw_g (lw_at lw_m8 9 rfl) rfl
theorem q1841 : (Jvm.Cond.stringRef "GuestViewModel" (160 : Nat) "guarded") ∈ lw_tbl := lw_at lw_m8 10 rfl
theorem q1842 : (Jvm.Cond.methodLink "GuestViewModel" (162 : Nat) ({ cls := "GuestViewModel", name := "passes", desc := "(Ljava/lang/String;)Z" } : Jvm.MethodName)) ∈ lw_all := lw_g (lw_at lw_m8 11 rfl) rfl
theorem q1843 : (Jvm.Cond.privateMethod ({ cls := "GuestViewModel", name := "passes", desc := "(Ljava/lang/String;)Z" } : Jvm.MethodName)) ∈ lw_tbl := lw_at lw_m8 12 rfl
theorem q1844 : (Jvm.Cond.instanceMethod ({ cls := "GuestViewModel", name := "passes", desc := "(Ljava/lang/String;)Z" } : Jvm.MethodName)) ∈ lw_all := lw_g (lw_at lw_m8 13 rfl) rfl
theorem q1845 : (Jvm.Cond.code ({ cls := "GuestViewModel", name := "passes", desc := "(Ljava/lang/String;)Z" } : Jvm.MethodName) prog_19_method_28_code (2 : Nat) (Option.some Jvm.ClassFile.FieldType.boolean)) ∈ lw_all := lw_g (lw_at lw_m8 14 rfl) rfl
theorem q1846 : (Jvm.Cond.methodLink "GuestViewModel" (165 : Nat) ({ cls := "GuestViewModel", name := "readMicros", desc := "(I)Z" } : Jvm.MethodName)) ∈ lw_all := lw_g (lw_at lw_m8 15 rfl) rfl
theorem q1847 : (Jvm.Cond.privateMethod ({ cls := "GuestViewModel", name := "readMicros", desc := "(I)Z" } : Jvm.MethodName)) ∈ lw_tbl := lw_at lw_m8 16 rfl
theorem q1848 : (Jvm.Cond.instanceMethod ({ cls := "GuestViewModel", name := "readMicros", desc := "(I)Z" } : Jvm.MethodName)) ∈ lw_all := lw_g (lw_at lw_m8 17 rfl) rfl
theorem q1849 : (Jvm.Cond.code ({ cls := "GuestViewModel", name := "readMicros", desc := "(I)Z" } : Jvm.MethodName) prog_19_method_37_code (5 : Nat) (Option.some Jvm.ClassFile.FieldType.boolean)) ∈ lw_all := lw_g (lw_at lw_m8 18 rfl) rfl
theorem q1850 : (Jvm.Cond.methodLink "GuestViewModel" (153 : Nat) ({ cls := "GuestViewModel", name := "kindRead", desc := "()I" } : Jvm.MethodName)) ∈ lw_all := lw_g (lw_at lw_m8 19 rfl) rfl
theorem q1851 : (Jvm.Cond.privateMethod ({ cls := "GuestViewModel", name := "kindRead", desc := "()I" } : Jvm.MethodName)) ∈ lw_tbl := lw_at lw_m8 20 rfl
theorem q1852 : (Jvm.Cond.instanceMethod ({ cls := "GuestViewModel", name := "kindRead", desc := "()I" } : Jvm.MethodName)) ∈ lw_all := lw_g (lw_at lw_m8 21 rfl) rfl
theorem q1853 : (Jvm.Cond.code ({ cls := "GuestViewModel", name := "kindRead", desc := "()I" } : Jvm.MethodName) prog_19_method_35_code (1 : Nat) (Option.some Jvm.ClassFile.FieldType.int)) ∈ lw_all := lw_g (lw_at lw_m8 22 rfl) rfl
theorem q1854 : (Jvm.Cond.stringRef "GuestViewModel" (131 : Nat) "add") ∈ lw_tbl := lw_at lw_m8 23 rfl
theorem q1855 : (Jvm.Cond.stringRef "GuestViewModel" (133 : Nat) "load") ∈ lw_tbl := lw_at lw_m8 24 rfl
theorem q1856 : (Jvm.Cond.stringRef "GuestViewModel" (135 : Nat) "save") ∈ lw_tbl := lw_at lw_m8 25 rfl
theorem q1857 : (Jvm.Cond.stringRef "GuestViewModel" (137 : Nat) "rise") ∈ lw_tbl := lw_at lw_m8 26 rfl
theorem q1858 : (Jvm.Cond.stringRef "GuestViewModel" (139 : Nat) "drop") ∈ lw_tbl := lw_at lw_m8 27 rfl
theorem q1859 : (Jvm.Cond.stringRef "GuestViewModel" (141 : Nat) "move") ∈ lw_tbl := lw_at lw_m8 28 rfl
theorem q1860 : (Jvm.Cond.stringRef "GuestViewModel" (143 : Nat) "where") ∈ lw_tbl := lw_at lw_m8 29 rfl
theorem q1861 : (Jvm.Cond.stringRef "GuestViewModel" (145 : Nat) "who") ∈ lw_tbl := lw_at lw_m8 30 rfl
theorem q1862 : (Jvm.Cond.stringRef "GuestViewModel" (147 : Nat) "time") ∈ lw_tbl := lw_at lw_m8 31 rfl
theorem q1863 : (Jvm.Cond.stringRef "GuestViewModel" (149 : Nat) "skip") ∈ lw_tbl := lw_at lw_m8 32 rfl
theorem q1864 : (Jvm.Cond.stringRef "GuestViewModel" (151 : Nat) "quiet") ∈ lw_tbl := lw_at lw_m8 33 rfl
theorem q1865 : (Jvm.Cond.methodLink "GuestViewModel" (78 : Nat) ({ cls := "GuestViewModel", name := "of", desc := "(II)I" } : Jvm.MethodName)) ∈ lw_all := lw_g (lw_at lw_m8 34 rfl) rfl
theorem q1866 : (Jvm.Cond.privateMethod ({ cls := "GuestViewModel", name := "of", desc := "(II)I" } : Jvm.MethodName)) ∈ lw_tbl := lw_at lw_m8 35 rfl
theorem q1867 : (Jvm.Cond.instanceMethod ({ cls := "GuestViewModel", name := "of", desc := "(II)I" } : Jvm.MethodName)) ∈ lw_all := lw_g (lw_at lw_m8 36 rfl) rfl
theorem q1868 : (Jvm.Cond.code ({ cls := "GuestViewModel", name := "of", desc := "(II)I" } : Jvm.MethodName) prog_19_method_14_code (3 : Nat) (Option.some Jvm.ClassFile.FieldType.int)) ∈ lw_all := lw_g (lw_at lw_m8 37 rfl) rfl
theorem q1869 : (Jvm.Cond.methodLink "GuestViewModel" (156 : Nat) ({ cls := "GuestViewModel", name := "hasNumber", desc := "(I)Z" } : Jvm.MethodName)) ∈ lw_all := lw_g (lw_at lw_m8 38 rfl) rfl
theorem q1870 : (Jvm.Cond.static ({ cls := "GuestViewModel", name := "hasNumber", desc := "(I)Z" } : Jvm.MethodName)) ∈ lw_all := lw_g (lw_at lw_m8 39 rfl) rfl
theorem q1871 : (Jvm.Cond.code ({ cls := "GuestViewModel", name := "hasNumber", desc := "(I)Z" } : Jvm.MethodName) prog_19_method_36_code (1 : Nat) (Option.some Jvm.ClassFile.FieldType.boolean)) ∈ lw_all := lw_g (lw_at lw_m8 40 rfl) rfl
theorem q1872 : (Jvm.Cond.methodLink "GuestViewModel" (128 : Nat) ({ cls := "GuestViewModel", name := "number", desc := "(II)I" } : Jvm.MethodName)) ∈ lw_all := lw_g (lw_at lw_m8 41 rfl) rfl
theorem q1873 : (Jvm.Cond.privateMethod ({ cls := "GuestViewModel", name := "number", desc := "(II)I" } : Jvm.MethodName)) ∈ lw_tbl := lw_at lw_m8 42 rfl
theorem q1874 : (Jvm.Cond.instanceMethod ({ cls := "GuestViewModel", name := "number", desc := "(II)I" } : Jvm.MethodName)) ∈ lw_all := lw_g (lw_at lw_m8 43 rfl) rfl
theorem q1875 : (Jvm.Cond.code ({ cls := "GuestViewModel", name := "number", desc := "(II)I" } : Jvm.MethodName) prog_19_method_30_code (4 : Nat) (Option.some Jvm.ClassFile.FieldType.int)) ∈ lw_all := lw_g (lw_at lw_m8 44 rfl) rfl
theorem q1876 : (Jvm.Cond.stringRef "GuestViewModel" (180 : Nat) "program") ∈ lw_tbl := lw_at lw_m8 45 rfl
theorem q1877 : (Jvm.Cond.methodLink "GuestViewModel" (182 : Nat) ({ cls := "GuestViewModel", name := "readProgram", desc := "()Z" } : Jvm.MethodName)) ∈ lw_all := lw_g (lw_at lw_m8 46 rfl) rfl
theorem q1878 : (Jvm.Cond.privateMethod ({ cls := "GuestViewModel", name := "readProgram", desc := "()Z" } : Jvm.MethodName)) ∈ lw_tbl := lw_at lw_m8 47 rfl
theorem q1879 : (Jvm.Cond.instanceMethod ({ cls := "GuestViewModel", name := "readProgram", desc := "()Z" } : Jvm.MethodName)) ∈ lw_all := lw_g (lw_at lw_m8 48 rfl) rfl
theorem q1880 : (Jvm.Cond.code ({ cls := "GuestViewModel", name := "readProgram", desc := "()Z" } : Jvm.MethodName) prog_19_method_39_code (4 : Nat) (Option.some Jvm.ClassFile.FieldType.boolean)) ∈ lw_all := lw_g (lw_at lw_m8 49 rfl) rfl
theorem q1881 : (Jvm.Cond.methodLink "GuestViewModel" (168 : Nat) ({ cls := "GuestViewModel", name := "isNumberNext", desc := "()Z" } : Jvm.MethodName)) ∈ lw_all := lw_g (lw_at lw_m8 50 rfl) rfl
theorem q1882 : (Jvm.Cond.privateMethod ({ cls := "GuestViewModel", name := "isNumberNext", desc := "()Z" } : Jvm.MethodName)) ∈ lw_tbl := lw_at lw_m8 51 rfl
theorem q1883 : (Jvm.Cond.instanceMethod ({ cls := "GuestViewModel", name := "isNumberNext", desc := "()Z" } : Jvm.MethodName)) ∈ lw_all := lw_g (lw_at lw_m8 52 rfl) rfl
theorem q1884 : (Jvm.Cond.code ({ cls := "GuestViewModel", name := "isNumberNext", desc := "()Z" } : Jvm.MethodName) prog_19_method_31_code (1 : Nat) (Option.some Jvm.ClassFile.FieldType.boolean)) ∈ lw_all := lw_g (lw_at lw_m8 53 rfl) rfl
theorem q1885 : (Jvm.Cond.stringRef "GuestViewModel" (185 : Nat) "cells") ∈ lw_tbl := lw_at lw_m8 54 rfl
theorem q1886 : (Jvm.Cond.methodLink "GuestViewModel" (186 : Nat) ({ cls := "GuestViewModel", name := "readCells", desc := "()Z" } : Jvm.MethodName)) ∈ lw_all := lw_g (lw_at lw_m8 55 rfl) rfl
theorem q1887 : (Jvm.Cond.privateMethod ({ cls := "GuestViewModel", name := "readCells", desc := "()Z" } : Jvm.MethodName)) ∈ lw_tbl := lw_at lw_m8 56 rfl
theorem q1888 : (Jvm.Cond.instanceMethod ({ cls := "GuestViewModel", name := "readCells", desc := "()Z" } : Jvm.MethodName)) ∈ lw_all := lw_g (lw_at lw_m8 57 rfl) rfl
theorem q1889 : (Jvm.Cond.code ({ cls := "GuestViewModel", name := "readCells", desc := "()Z" } : Jvm.MethodName) prog_19_method_40_code (5 : Nat) (Option.some Jvm.ClassFile.FieldType.boolean)) ∈ lw_all := lw_g (lw_at lw_m8 58 rfl) rfl
theorem q1890 : (Jvm.Cond.stringRef "GuestViewModel" (189 : Nat) "vector") ∈ lw_tbl := lw_at lw_m8 59 rfl
theorem q1891 : (Jvm.Cond.methodLink "GuestViewModel" (172 : Nat) ({ cls := "GuestViewModel", name := "readNumber", desc := "(II)Z" } : Jvm.MethodName)) ∈ lw_all := lw_g (lw_at lw_m8 60 rfl) rfl
theorem q1892 : (Jvm.Cond.privateMethod ({ cls := "GuestViewModel", name := "readNumber", desc := "(II)Z" } : Jvm.MethodName)) ∈ lw_tbl := lw_at lw_m8 61 rfl
theorem q1893 : (Jvm.Cond.instanceMethod ({ cls := "GuestViewModel", name := "readNumber", desc := "(II)Z" } : Jvm.MethodName)) ∈ lw_all := lw_g (lw_at lw_m8 62 rfl) rfl
theorem q1894 : (Jvm.Cond.code ({ cls := "GuestViewModel", name := "readNumber", desc := "(II)Z" } : Jvm.MethodName) prog_19_method_34_code (4 : Nat) (Option.some Jvm.ClassFile.FieldType.boolean)) ∈ lw_all := lw_g (lw_at lw_m8 63 rfl) rfl
theorem q1895 : (Jvm.Cond.stringRef "GuestViewModel" (191 : Nat) "shift") ∈ lw_tbl := lw_at lw_m8 64 rfl
theorem q1896 : (Jvm.Cond.methodLink "GuestViewModel" (193 : Nat) ({ cls := "GuestViewModel", name := "readShift", desc := "()Z" } : Jvm.MethodName)) ∈ lw_all := lw_g (lw_at lw_m8 65 rfl) rfl
theorem q1897 : (Jvm.Cond.privateMethod ({ cls := "GuestViewModel", name := "readShift", desc := "()Z" } : Jvm.MethodName)) ∈ lw_tbl := lw_at lw_m8 66 rfl
theorem q1898 : (Jvm.Cond.instanceMethod ({ cls := "GuestViewModel", name := "readShift", desc := "()Z" } : Jvm.MethodName)) ∈ lw_all := lw_g (lw_at lw_m8 67 rfl) rfl
theorem q1899 : (Jvm.Cond.code ({ cls := "GuestViewModel", name := "readShift", desc := "()Z" } : Jvm.MethodName) prog_19_method_41_code (2 : Nat) (Option.some Jvm.ClassFile.FieldType.boolean)) ∈ lw_all := lw_g (lw_at lw_m8 68 rfl) rfl
theorem q1900 : (Jvm.Cond.stringRef "GuestViewModel" (196 : Nat) "cost") ∈ lw_tbl := lw_at lw_m8 69 rfl
theorem q1901 : (Jvm.Cond.stringRef "GuestViewModel" (198 : Nat) "alarm") ∈ lw_tbl := lw_at lw_m8 70 rfl
theorem q1902 : (Jvm.Cond.stringRef "GuestViewModel" (200 : Nat) "purse") ∈ lw_tbl := lw_at lw_m8 71 rfl
theorem q1903 : (Jvm.Cond.methodLink "GuestViewModel" (267 : Nat) ({ cls := "GuestViewModel", name := "readLawLine", desc := "(I)Z" } : Jvm.MethodName)) ∈ lw_all := lw_g (lw_at lw_m8 72 rfl) rfl
theorem q1904 : (Jvm.Cond.privateMethod ({ cls := "GuestViewModel", name := "readLawLine", desc := "(I)Z" } : Jvm.MethodName)) ∈ lw_tbl := lw_at lw_m8 73 rfl
theorem q1905 : (Jvm.Cond.instanceMethod ({ cls := "GuestViewModel", name := "readLawLine", desc := "(I)Z" } : Jvm.MethodName)) ∈ lw_all := lw_g (lw_at lw_m8 74 rfl) rfl
theorem q1906 : (Jvm.Cond.code ({ cls := "GuestViewModel", name := "readLawLine", desc := "(I)Z" } : Jvm.MethodName) prog_19_method_51_code (3 : Nat) (Option.some Jvm.ClassFile.FieldType.boolean)) ∈ lw_all := lw_g (lw_at lw_m8 75 rfl) rfl
theorem q1907 : (Jvm.Cond.stringRef "GuestViewModel" (258 : Nat) "blame") ∈ lw_tbl := lw_at lw_m8 76 rfl
theorem q1908 : (Jvm.Cond.stringRef "GuestViewModel" (260 : Nat) "worth") ∈ lw_tbl := lw_at lw_m8 77 rfl
theorem q1909 : (Jvm.Cond.stringRef "GuestViewModel" (262 : Nat) "if") ∈ lw_tbl := lw_at lw_m8 78 rfl
theorem q1910 : (Jvm.Cond.methodLink "GuestViewModel" (237 : Nat) ({ cls := "GuestViewModel", name := "readCond", desc := "()Z" } : Jvm.MethodName)) ∈ lw_all := lw_g (lw_at lw_m8 79 rfl) rfl
theorem q1911 : (Jvm.Cond.privateMethod ({ cls := "GuestViewModel", name := "readCond", desc := "()Z" } : Jvm.MethodName)) ∈ lw_tbl := lw_at lw_m8 80 rfl
theorem q1912 : (Jvm.Cond.instanceMethod ({ cls := "GuestViewModel", name := "readCond", desc := "()Z" } : Jvm.MethodName)) ∈ lw_all := lw_g (lw_at lw_m8 81 rfl) rfl
theorem q1913 : (Jvm.Cond.code ({ cls := "GuestViewModel", name := "readCond", desc := "()Z" } : Jvm.MethodName) prog_19_method_50_code (1 : Nat) (Option.some Jvm.ClassFile.FieldType.boolean)) ∈ lw_all := lw_g (lw_at lw_m8 82 rfl) rfl
theorem q1914 : (Jvm.Cond.methodLink "GuestViewModel" (253 : Nat) ({ cls := "GuestViewModel", name := "readAllOf", desc := "()Z" } : Jvm.MethodName)) ∈ lw_all := lw_g (lw_at lw_m8 83 rfl) rfl
theorem q1915 : (Jvm.Cond.privateMethod ({ cls := "GuestViewModel", name := "readAllOf", desc := "()Z" } : Jvm.MethodName)) ∈ lw_tbl := lw_at lw_m8 84 rfl
theorem q1916 : (Jvm.Cond.instanceMethod ({ cls := "GuestViewModel", name := "readAllOf", desc := "()Z" } : Jvm.MethodName)) ∈ lw_all := lw_g (lw_at lw_m8 85 rfl) rfl
theorem q1917 : (Jvm.Cond.code ({ cls := "GuestViewModel", name := "readAllOf", desc := "()Z" } : Jvm.MethodName) prog_19_method_49_code (1 : Nat) (Option.some Jvm.ClassFile.FieldType.boolean)) ∈ lw_all := lw_g (lw_at lw_m8 86 rfl) rfl
theorem q1918 : (Jvm.Cond.methodLink "GuestViewModel" (242 : Nat) ({ cls := "GuestViewModel", name := "readAtom", desc := "()Z" } : Jvm.MethodName)) ∈ lw_all := lw_g (lw_at lw_m8 87 rfl) rfl
theorem q1919 : (Jvm.Cond.privateMethod ({ cls := "GuestViewModel", name := "readAtom", desc := "()Z" } : Jvm.MethodName)) ∈ lw_tbl := lw_at lw_m8 88 rfl
theorem q1920 : (Jvm.Cond.instanceMethod ({ cls := "GuestViewModel", name := "readAtom", desc := "()Z" } : Jvm.MethodName)) ∈ lw_all := lw_g (lw_at lw_m8 89 rfl) rfl
theorem q1921 : (Jvm.Cond.code ({ cls := "GuestViewModel", name := "readAtom", desc := "()Z" } : Jvm.MethodName) prog_19_method_48_code (2 : Nat) (Option.some Jvm.ClassFile.FieldType.boolean)) ∈ lw_all := lw_g (lw_at lw_m8 90 rfl) rfl
theorem q1922 : (Jvm.Cond.methodLink "GuestViewModel" (227 : Nat) ({ cls := "GuestViewModel", name := "sign", desc := "(I)Z" } : Jvm.MethodName)) ∈ lw_all := lw_g (lw_at lw_m8 91 rfl) rfl
theorem q1923 : (Jvm.Cond.privateMethod ({ cls := "GuestViewModel", name := "sign", desc := "(I)Z" } : Jvm.MethodName)) ∈ lw_tbl := lw_at lw_m8 92 rfl
theorem q1924 : (Jvm.Cond.instanceMethod ({ cls := "GuestViewModel", name := "sign", desc := "(I)Z" } : Jvm.MethodName)) ∈ lw_all := lw_g (lw_at lw_m8 93 rfl) rfl
theorem q1925 : (Jvm.Cond.code ({ cls := "GuestViewModel", name := "sign", desc := "(I)Z" } : Jvm.MethodName) prog_19_method_29_code (2 : Nat) (Option.some Jvm.ClassFile.FieldType.boolean)) ∈ lw_all := lw_g (lw_at lw_m8 94 rfl) rfl
theorem q1926 : (Jvm.Cond.stringRef "GuestViewModel" (240 : Nat) "not") ∈ lw_tbl := lw_at lw_m8 95 rfl
theorem q1927 : (Jvm.Cond.methodLink "GuestViewModel" (220 : Nat) ({ cls := "GuestViewModel", name := "emits", desc := "(II)V" } : Jvm.MethodName)) ∈ lw_all := lw_g (lw_at lw_m8 96 rfl) rfl
theorem q1928 : (Jvm.Cond.privateMethod ({ cls := "GuestViewModel", name := "emits", desc := "(II)V" } : Jvm.MethodName)) ∈ lw_tbl := lw_at lw_m8 97 rfl
theorem q1929 : (Jvm.Cond.instanceMethod ({ cls := "GuestViewModel", name := "emits", desc := "(II)V" } : Jvm.MethodName)) ∈ lw_all := lw_g (lw_at lw_m8 98 rfl) rfl
theorem q1930 : (Jvm.Cond.code ({ cls := "GuestViewModel", name := "emits", desc := "(II)V" } : Jvm.MethodName) prog_19_method_43_code (3 : Nat) (Option.none : Option Jvm.ClassFile.FieldType)) ∈ lw_all := lw_g (lw_at lw_m8 99 rfl) rfl
theorem q1931 : (Jvm.Cond.methodLink "GuestViewModel" (245 : Nat) ({ cls := "GuestViewModel", name := "readTag", desc := "()Z" } : Jvm.MethodName)) ∈ lw_all := lw_g (lw_at lw_m8 100 rfl) rfl
theorem q1932 : (Jvm.Cond.privateMethod ({ cls := "GuestViewModel", name := "readTag", desc := "()Z" } : Jvm.MethodName)) ∈ lw_tbl := lw_at lw_m8 101 rfl
theorem q1933 : (Jvm.Cond.instanceMethod ({ cls := "GuestViewModel", name := "readTag", desc := "()Z" } : Jvm.MethodName)) ∈ lw_all := lw_g (lw_at lw_m8 102 rfl) rfl
theorem q1934 : (Jvm.Cond.code ({ cls := "GuestViewModel", name := "readTag", desc := "()Z" } : Jvm.MethodName) prog_19_method_47_code (2 : Nat) (Option.some Jvm.ClassFile.FieldType.boolean)) ∈ lw_all := lw_g (lw_at lw_m8 103 rfl) rfl
theorem q1935 : (Jvm.Cond.stringRef "GuestViewModel" (230 : Nat) "patched") ∈ lw_tbl := lw_at lw_m8 104 rfl
theorem q1936 : (Jvm.Cond.stringRef "GuestViewModel" (232 : Nat) "sensitive") ∈ lw_tbl := lw_at lw_m8 105 rfl
theorem q1937 : (Jvm.Cond.methodLink "GuestViewModel" (248 : Nat) ({ cls := "GuestViewModel", name := "readSum", desc := "()Z" } : Jvm.MethodName)) ∈ lw_all := lw_g (lw_at lw_m8 106 rfl) rfl
theorem q1938 : (Jvm.Cond.privateMethod ({ cls := "GuestViewModel", name := "readSum", desc := "()Z" } : Jvm.MethodName)) ∈ lw_tbl := lw_at lw_m8 107 rfl
theorem q1939 : (Jvm.Cond.instanceMethod ({ cls := "GuestViewModel", name := "readSum", desc := "()Z" } : Jvm.MethodName)) ∈ lw_all := lw_g (lw_at lw_m8 108 rfl) rfl
theorem q1940 : (Jvm.Cond.code ({ cls := "GuestViewModel", name := "readSum", desc := "()Z" } : Jvm.MethodName) prog_19_method_46_code (1 : Nat) (Option.some Jvm.ClassFile.FieldType.boolean)) ∈ lw_all := lw_g (lw_at lw_m8 109 rfl) rfl
theorem q1941 : (Jvm.Cond.methodLink "GuestViewModel" (224 : Nat) ({ cls := "GuestViewModel", name := "readPart", desc := "()Z" } : Jvm.MethodName)) ∈ lw_all := lw_g (lw_at lw_m8 110 rfl) rfl
theorem q1942 : (Jvm.Cond.privateMethod ({ cls := "GuestViewModel", name := "readPart", desc := "()Z" } : Jvm.MethodName)) ∈ lw_tbl := lw_at lw_m8 111 rfl
theorem q1943 : (Jvm.Cond.instanceMethod ({ cls := "GuestViewModel", name := "readPart", desc := "()Z" } : Jvm.MethodName)) ∈ lw_all := lw_g (lw_at lw_m8 112 rfl) rfl
theorem q1944 : (Jvm.Cond.code ({ cls := "GuestViewModel", name := "readPart", desc := "()Z" } : Jvm.MethodName) prog_19_method_45_code (3 : Nat) (Option.some Jvm.ClassFile.FieldType.boolean)) ∈ lw_all := lw_g (lw_at lw_m8 113 rfl) rfl
theorem q1945 : (Jvm.Cond.methodLink "GuestViewModel" (217 : Nat) ({ cls := "GuestViewModel", name := "wordOfPart", desc := "()I" } : Jvm.MethodName)) ∈ lw_all := lw_g (lw_at lw_m8 114 rfl) rfl
theorem q1946 : (Jvm.Cond.privateMethod ({ cls := "GuestViewModel", name := "wordOfPart", desc := "()I" } : Jvm.MethodName)) ∈ lw_tbl := lw_at lw_m8 115 rfl
theorem q1947 : (Jvm.Cond.instanceMethod ({ cls := "GuestViewModel", name := "wordOfPart", desc := "()I" } : Jvm.MethodName)) ∈ lw_all := lw_g (lw_at lw_m8 116 rfl) rfl
theorem q1948 : (Jvm.Cond.code ({ cls := "GuestViewModel", name := "wordOfPart", desc := "()I" } : Jvm.MethodName) prog_19_method_44_code (1 : Nat) (Option.some Jvm.ClassFile.FieldType.int)) ∈ lw_all := lw_g (lw_at lw_m8 117 rfl) rfl
theorem q1949 : (Jvm.Cond.stringRef "GuestViewModel" (205 : Nat) "micros") ∈ lw_tbl := lw_at lw_m8 118 rfl
theorem q1950 : (Jvm.Cond.stringRef "GuestViewModel" (207 : Nat) "control") ∈ lw_tbl := lw_at lw_m8 119 rfl
theorem q1951 : (Jvm.Cond.stringRef "GuestViewModel" (209 : Nat) "modal") ∈ lw_tbl := lw_at lw_m8 120 rfl
theorem q1952 : (Jvm.Cond.stringRef "GuestViewModel" (211 : Nat) "local") ∈ lw_tbl := lw_at lw_m8 121 rfl
theorem q1953 : (Jvm.Cond.stringRef "GuestViewModel" (213 : Nat) "timed") ∈ lw_tbl := lw_at lw_m8 122 rfl
theorem q1954 : (Jvm.Cond.stringRef "GuestViewModel" (215 : Nat) "uses") ∈ lw_tbl := lw_at lw_m8 123 rfl
theorem q1955 : (Jvm.Cond.stringRef "GuestViewModel" (251 : Nat) "and") ∈ lw_tbl := lw_at lw_m8 124 rfl
theorem q1956 : (Jvm.Cond.stringRef "GuestViewModel" (256 : Nat) "or") ∈ lw_tbl := lw_at lw_m8 125 rfl
theorem q1957 : (Jvm.Cond.methodLink "GuestViewModel" (280 : Nat) ({ cls := "GuestViewModel", name := "throwsIf", desc := "(ZI)Z" } : Jvm.MethodName)) ∈ lw_all := lw_g (lw_at lw_m8 126 rfl) rfl
theorem q1958 : (Jvm.Cond.privateMethod ({ cls := "GuestViewModel", name := "throwsIf", desc := "(ZI)Z" } : Jvm.MethodName)) ∈ lw_tbl := lw_at lw_m8 127 rfl
theorem q1959 : (Jvm.Cond.instanceMethod ({ cls := "GuestViewModel", name := "throwsIf", desc := "(ZI)Z" } : Jvm.MethodName)) ∈ lw_all := lw_g (lw_at lw_m8 128 rfl) rfl
theorem q1960 : (Jvm.Cond.code ({ cls := "GuestViewModel", name := "throwsIf", desc := "(ZI)Z" } : Jvm.MethodName) prog_19_method_2_code (3 : Nat) (Option.some Jvm.ClassFile.FieldType.boolean)) ∈ lw_all := lw_g (lw_at lw_m8 129 rfl) rfl
theorem q1962 : (Jvm.Cond.instanceMethod ({ cls := "GuestViewModel", name := "law", desc := "()I" } : Jvm.MethodName)) ∈ lw_all := lw_g (lw_at lw_m8 131 rfl) rfl
theorem q1963 : (Jvm.Cond.selects "GuestViewModel" ({ cls := "GuestViewModel", name := "law", desc := "()I" } : Jvm.MethodName) ({ cls := "GuestViewModel", name := "law", desc := "()I" } : Jvm.MethodName)) ∈ lw_all := lw_g (lw_at lw_m8 132 rfl) rfl
theorem q1964 : (Jvm.Cond.code ({ cls := "GuestViewModel", name := "law", desc := "()I" } : Jvm.MethodName) prog_19_method_55_code (3 : Nat) (Option.some Jvm.ClassFile.FieldType.int)) ∈ lw_all := lw_g (lw_at lw_m8 133 rfl) rfl
theorem q1966 : (Jvm.Cond.instanceMethod ({ cls := "GuestViewModel", name := "op", desc := "(II)I" } : Jvm.MethodName)) ∈ lw_all := lw_g (lw_at lw_m8 135 rfl) rfl
theorem q1967 : (Jvm.Cond.selects "GuestViewModel" ({ cls := "GuestViewModel", name := "op", desc := "(II)I" } : Jvm.MethodName) ({ cls := "GuestViewModel", name := "op", desc := "(II)I" } : Jvm.MethodName)) ∈ lw_all := lw_g (lw_at lw_m8 136 rfl) rfl
theorem q1968 : (Jvm.Cond.code ({ cls := "GuestViewModel", name := "op", desc := "(II)I" } : Jvm.MethodName) prog_19_method_90_code (3 : Nat) (Option.some Jvm.ClassFile.FieldType.int)) ∈ lw_all := lw_g (lw_at lw_m8 137 rfl) rfl
theorem q1969 : (Jvm.Cond.methodLink "GuestViewModel" (433 : Nat) ({ cls := "GuestViewModel", name := "noOp", desc := "(I)Z" } : Jvm.MethodName)) ∈ lw_all := lw_g (lw_at lw_m8 138 rfl) rfl
theorem q1970 : (Jvm.Cond.privateMethod ({ cls := "GuestViewModel", name := "noOp", desc := "(I)Z" } : Jvm.MethodName)) ∈ lw_tbl := lw_at lw_m8 139 rfl
theorem q1971 : (Jvm.Cond.instanceMethod ({ cls := "GuestViewModel", name := "noOp", desc := "(I)Z" } : Jvm.MethodName)) ∈ lw_all := lw_g (lw_at lw_m8 140 rfl) rfl
theorem q1972 : (Jvm.Cond.code ({ cls := "GuestViewModel", name := "noOp", desc := "(I)Z" } : Jvm.MethodName) prog_19_method_19_code (2 : Nat) (Option.some Jvm.ClassFile.FieldType.boolean)) ∈ lw_all := lw_g (lw_at lw_m8 141 rfl) rfl
theorem q1973 : (Jvm.Cond.methodLink "GuestViewModel" (88 : Nat) ({ cls := "GuestViewModel", name := "in", desc := "(III)Z" } : Jvm.MethodName)) ∈ lw_all := lw_g (lw_at lw_m8 142 rfl) rfl
theorem q1974 : (Jvm.Cond.static ({ cls := "GuestViewModel", name := "in", desc := "(III)Z" } : Jvm.MethodName)) ∈ lw_all := lw_g (lw_at lw_m8 143 rfl) rfl
theorem q1975 : (Jvm.Cond.code ({ cls := "GuestViewModel", name := "in", desc := "(III)Z" } : Jvm.MethodName) prog_19_method_3_code (3 : Nat) (Option.some Jvm.ClassFile.FieldType.boolean)) ∈ lw_all := lw_g (lw_at lw_m8 144 rfl) rfl
theorem q1976 : (Jvm.Cond.methodLink "GuestViewModel" (423 : Nat) ({ cls := "GuestViewModel", name := "laysTraits", desc := "()V" } : Jvm.MethodName)) ∈ lw_all := lw_g (lw_at lw_m8 145 rfl) rfl
theorem q1977 : (Jvm.Cond.privateMethod ({ cls := "GuestViewModel", name := "laysTraits", desc := "()V" } : Jvm.MethodName)) ∈ lw_tbl := lw_at lw_m8 146 rfl
theorem q1978 : (Jvm.Cond.instanceMethod ({ cls := "GuestViewModel", name := "laysTraits", desc := "()V" } : Jvm.MethodName)) ∈ lw_all := lw_g (lw_at lw_m8 147 rfl) rfl
theorem q1979 : (Jvm.Cond.code ({ cls := "GuestViewModel", name := "laysTraits", desc := "()V" } : Jvm.MethodName) prog_19_method_72_code (5 : Nat) (Option.none : Option Jvm.ClassFile.FieldType)) ∈ lw_all := lw_g (lw_at lw_m8 148 rfl) rfl
theorem q1980 : (Jvm.Cond.methodLink "GuestViewModel" (361 : Nat) ({ cls := "GuestViewModel", name := "numberOfAll", desc := "(I)J" } : Jvm.MethodName)) ∈ lw_all := lw_g (lw_at lw_m8 149 rfl) rfl
theorem q1981 : (Jvm.Cond.privateMethod ({ cls := "GuestViewModel", name := "numberOfAll", desc := "(I)J" } : Jvm.MethodName)) ∈ lw_tbl := lw_at lw_m8 150 rfl
theorem q1982 : (Jvm.Cond.instanceMethod ({ cls := "GuestViewModel", name := "numberOfAll", desc := "(I)J" } : Jvm.MethodName)) ∈ lw_all := lw_g (lw_at lw_m8 151 rfl) rfl
theorem q1983 : (Jvm.Cond.code ({ cls := "GuestViewModel", name := "numberOfAll", desc := "(I)J" } : Jvm.MethodName) prog_19_method_71_code (5 : Nat) (Option.some Jvm.ClassFile.FieldType.long)) ∈ lw_all := lw_g (lw_at lw_m8 152 rfl) rfl
theorem q1984 : (Jvm.Cond.constantLong "GuestViewModel" (355 : Nat) (2 : Int64)) ∈ lw_all := lw_g (lw_at lw_m8 153 rfl) rfl
theorem q1985 : (Jvm.Cond.constantLong "GuestViewModel" (357 : Nat) (11 : Int64)) ∈ lw_all := lw_g (lw_at lw_m8 154 rfl) rfl
theorem q1986 : (Jvm.Cond.methodLink "GuestViewModel" (298 : Nat) ({ cls := "GuestViewModel", name := "kindOf", desc := "(II)I" } : Jvm.MethodName)) ∈ lw_all := lw_g (lw_at lw_m8 155 rfl) rfl
theorem q1987 : (Jvm.Cond.privateMethod ({ cls := "GuestViewModel", name := "kindOf", desc := "(II)I" } : Jvm.MethodName)) ∈ lw_tbl := lw_at lw_m8 156 rfl
theorem q1988 : (Jvm.Cond.instanceMethod ({ cls := "GuestViewModel", name := "kindOf", desc := "(II)I" } : Jvm.MethodName)) ∈ lw_all := lw_g (lw_at lw_m8 157 rfl) rfl
theorem q1989 : (Jvm.Cond.code ({ cls := "GuestViewModel", name := "kindOf", desc := "(II)I" } : Jvm.MethodName) prog_19_method_15_code (3 : Nat) (Option.some Jvm.ClassFile.FieldType.int)) ∈ lw_all := lw_g (lw_at lw_m8 158 rfl) rfl
theorem q1990 : (Jvm.Cond.constantLong "GuestViewModel" (359 : Nat) (8 : Int64)) ∈ lw_all := lw_g (lw_at lw_m8 159 rfl) rfl
theorem q1991 : (Jvm.Cond.methodLink "GuestViewModel" (301 : Nat) ({ cls := "GuestViewModel", name := "numberOf", desc := "(II)I" } : Jvm.MethodName)) ∈ lw_all := lw_g (lw_at lw_m8 160 rfl) rfl
theorem q1992 : (Jvm.Cond.privateMethod ({ cls := "GuestViewModel", name := "numberOf", desc := "(II)I" } : Jvm.MethodName)) ∈ lw_tbl := lw_at lw_m8 161 rfl
theorem q1993 : (Jvm.Cond.instanceMethod ({ cls := "GuestViewModel", name := "numberOf", desc := "(II)I" } : Jvm.MethodName)) ∈ lw_all := lw_g (lw_at lw_m8 162 rfl) rfl
theorem q1994 : (Jvm.Cond.code ({ cls := "GuestViewModel", name := "numberOf", desc := "(II)I" } : Jvm.MethodName) prog_19_method_16_code (3 : Nat) (Option.some Jvm.ClassFile.FieldType.int)) ∈ lw_all := lw_g (lw_at lw_m8 163 rfl) rfl
theorem q1995 : (Jvm.Cond.methodLink "GuestViewModel" (365 : Nat) ({ cls := "GuestViewModel", name := "witnessOf", desc := "(II)I" } : Jvm.MethodName)) ∈ lw_all := lw_g (lw_at lw_m8 164 rfl) rfl
theorem q1996 : (Jvm.Cond.privateMethod ({ cls := "GuestViewModel", name := "witnessOf", desc := "(II)I" } : Jvm.MethodName)) ∈ lw_tbl := lw_at lw_m8 165 rfl
theorem q1997 : (Jvm.Cond.instanceMethod ({ cls := "GuestViewModel", name := "witnessOf", desc := "(II)I" } : Jvm.MethodName)) ∈ lw_all := lw_g (lw_at lw_m8 166 rfl) rfl
theorem q1998 : (Jvm.Cond.code ({ cls := "GuestViewModel", name := "witnessOf", desc := "(II)I" } : Jvm.MethodName) prog_19_method_70_code (4 : Nat) (Option.some Jvm.ClassFile.FieldType.int)) ∈ lw_all := lw_g (lw_at lw_m8 167 rfl) rfl
theorem q1999 : (Jvm.Cond.methodLink "GuestViewModel" (352 : Nat) ({ cls := "GuestViewModel", name := "isSoIn", desc := "(III)Z" } : Jvm.MethodName)) ∈ lw_all := lw_g (lw_at lw_m8 168 rfl) rfl
theorem q2000 : (Jvm.Cond.privateMethod ({ cls := "GuestViewModel", name := "isSoIn", desc := "(III)Z" } : Jvm.MethodName)) ∈ lw_tbl := lw_at lw_m8 169 rfl
theorem q2001 : (Jvm.Cond.instanceMethod ({ cls := "GuestViewModel", name := "isSoIn", desc := "(III)Z" } : Jvm.MethodName)) ∈ lw_all := lw_g (lw_at lw_m8 170 rfl) rfl
theorem q2002 : (Jvm.Cond.code ({ cls := "GuestViewModel", name := "isSoIn", desc := "(III)Z" } : Jvm.MethodName) prog_19_method_69_code (4 : Nat) (Option.some Jvm.ClassFile.FieldType.boolean)) ∈ lw_all := lw_g (lw_at lw_m8 171 rfl) rfl
theorem q2003 : (Jvm.Cond.methodLink "GuestViewModel" (340 : Nat) ({ cls := "GuestViewModel", name := "isControlIn", desc := "(II)Z" } : Jvm.MethodName)) ∈ lw_all := lw_g (lw_at lw_m8 172 rfl) rfl
theorem q2004 : (Jvm.Cond.privateMethod ({ cls := "GuestViewModel", name := "isControlIn", desc := "(II)Z" } : Jvm.MethodName)) ∈ lw_tbl := lw_at lw_m8 173 rfl
theorem q2005 : (Jvm.Cond.instanceMethod ({ cls := "GuestViewModel", name := "isControlIn", desc := "(II)Z" } : Jvm.MethodName)) ∈ lw_all := lw_g (lw_at lw_m8 174 rfl) rfl
theorem q2006 : (Jvm.Cond.code ({ cls := "GuestViewModel", name := "isControlIn", desc := "(II)Z" } : Jvm.MethodName) prog_19_method_63_code (3 : Nat) (Option.some Jvm.ClassFile.FieldType.boolean)) ∈ lw_all := lw_g (lw_at lw_m8 175 rfl) rfl
theorem q2007 : (Jvm.Cond.methodLink "GuestViewModel" (311 : Nat) ({ cls := "GuestViewModel", name := "modeOf", desc := "(I)I" } : Jvm.MethodName)) ∈ lw_all := lw_g (lw_at lw_m8 176 rfl) rfl
theorem q2008 : (Jvm.Cond.static ({ cls := "GuestViewModel", name := "modeOf", desc := "(I)I" } : Jvm.MethodName)) ∈ lw_all := lw_g (lw_at lw_m8 177 rfl) rfl
theorem q2009 : (Jvm.Cond.code ({ cls := "GuestViewModel", name := "modeOf", desc := "(I)I" } : Jvm.MethodName) prog_19_method_59_code (1 : Nat) (Option.some Jvm.ClassFile.FieldType.int)) ∈ lw_all := lw_g (lw_at lw_m8 178 rfl) rfl
theorem q2010 : (Jvm.Cond.methodLink "GuestViewModel" (318 : Nat) ({ cls := "GuestViewModel", name := "trapsIn", desc := "(II)Z" } : Jvm.MethodName)) ∈ lw_all := lw_g (lw_at lw_m8 179 rfl) rfl
theorem q2011 : (Jvm.Cond.privateMethod ({ cls := "GuestViewModel", name := "trapsIn", desc := "(II)Z" } : Jvm.MethodName)) ∈ lw_tbl := lw_at lw_m8 180 rfl
theorem q2012 : (Jvm.Cond.instanceMethod ({ cls := "GuestViewModel", name := "trapsIn", desc := "(II)Z" } : Jvm.MethodName)) ∈ lw_all := lw_g (lw_at lw_m8 181 rfl) rfl
theorem q2013 : (Jvm.Cond.code ({ cls := "GuestViewModel", name := "trapsIn", desc := "(II)Z" } : Jvm.MethodName) prog_19_method_62_code (3 : Nat) (Option.some Jvm.ClassFile.FieldType.boolean)) ∈ lw_all := lw_g (lw_at lw_m8 182 rfl) rfl
theorem q2014 : (Jvm.Cond.methodLink "GuestViewModel" (321 : Nat) ({ cls := "GuestViewModel", name := "isNow", desc := "(I)V" } : Jvm.MethodName)) ∈ lw_all := lw_g (lw_at lw_m8 183 rfl) rfl
theorem q2015 : (Jvm.Cond.privateMethod ({ cls := "GuestViewModel", name := "isNow", desc := "(I)V" } : Jvm.MethodName)) ∈ lw_tbl := lw_at lw_m8 184 rfl
theorem q2016 : (Jvm.Cond.instanceMethod ({ cls := "GuestViewModel", name := "isNow", desc := "(I)V" } : Jvm.MethodName)) ∈ lw_all := lw_g (lw_at lw_m8 185 rfl) rfl
theorem q2017 : (Jvm.Cond.code ({ cls := "GuestViewModel", name := "isNow", desc := "(I)V" } : Jvm.MethodName) prog_19_method_61_code (2 : Nat) (Option.none : Option Jvm.ClassFile.FieldType)) ∈ lw_all := lw_g (lw_at lw_m8 186 rfl) rfl
theorem q2018 : (Jvm.Cond.methodLink "GuestViewModel" (307 : Nat) ({ cls := "GuestViewModel", name := "baseOf", desc := "(I)I" } : Jvm.MethodName)) ∈ lw_all := lw_g (lw_at lw_m8 187 rfl) rfl
theorem q2019 : (Jvm.Cond.static ({ cls := "GuestViewModel", name := "baseOf", desc := "(I)I" } : Jvm.MethodName)) ∈ lw_all := lw_g (lw_at lw_m8 188 rfl) rfl
theorem q2020 : (Jvm.Cond.code ({ cls := "GuestViewModel", name := "baseOf", desc := "(I)I" } : Jvm.MethodName) prog_19_method_60_code (1 : Nat) (Option.some Jvm.ClassFile.FieldType.int)) ∈ lw_all := lw_g (lw_at lw_m8 189 rfl) rfl
theorem q2021 : (Jvm.Cond.methodLink "GuestViewModel" (314 : Nat) ({ cls := "GuestViewModel", name := "isLike", desc := "(IIIIZ)V" } : Jvm.MethodName)) ∈ lw_all := lw_g (lw_at lw_m8 190 rfl) rfl
theorem q2022 : (Jvm.Cond.privateMethod ({ cls := "GuestViewModel", name := "isLike", desc := "(IIIIZ)V" } : Jvm.MethodName)) ∈ lw_tbl := lw_at lw_m8 191 rfl
theorem q2023 : (Jvm.Cond.instanceMethod ({ cls := "GuestViewModel", name := "isLike", desc := "(IIIIZ)V" } : Jvm.MethodName)) ∈ lw_all := lw_g (lw_at lw_m8 192 rfl) rfl
theorem q2024 : (Jvm.Cond.code ({ cls := "GuestViewModel", name := "isLike", desc := "(IIIIZ)V" } : Jvm.MethodName) prog_19_method_58_code (9 : Nat) (Option.none : Option Jvm.ClassFile.FieldType)) ∈ lw_all := lw_g (lw_at lw_m8 193 rfl) rfl
theorem q2025 : (Jvm.Cond.methodLink "GuestViewModel" (325 : Nat) ({ cls := "GuestViewModel", name := "does", desc := "(I)V" } : Jvm.MethodName)) ∈ lw_all := lw_g (lw_at lw_m8 194 rfl) rfl
theorem q2026 : (Jvm.Cond.privateMethod ({ cls := "GuestViewModel", name := "does", desc := "(I)V" } : Jvm.MethodName)) ∈ lw_tbl := lw_at lw_m8 195 rfl
theorem q2027 : (Jvm.Cond.instanceMethod ({ cls := "GuestViewModel", name := "does", desc := "(I)V" } : Jvm.MethodName)) ∈ lw_all := lw_g (lw_at lw_m8 196 rfl) rfl
theorem q2028 : (Jvm.Cond.code ({ cls := "GuestViewModel", name := "does", desc := "(I)V" } : Jvm.MethodName) prog_19_method_57_code (4 : Nat) (Option.none : Option Jvm.ClassFile.FieldType)) ∈ lw_all := lw_g (lw_at lw_m8 197 rfl) rfl
theorem q2029 : (Jvm.Cond.methodLink "GuestViewModel" (304 : Nat) ({ cls := "GuestViewModel", name := "isDone", desc := "(II)V" } : Jvm.MethodName)) ∈ lw_all := lw_g (lw_at lw_m8 198 rfl) rfl
theorem q2030 : (Jvm.Cond.privateMethod ({ cls := "GuestViewModel", name := "isDone", desc := "(II)V" } : Jvm.MethodName)) ∈ lw_tbl := lw_at lw_m8 199 rfl
theorem q2031 : (Jvm.Cond.instanceMethod ({ cls := "GuestViewModel", name := "isDone", desc := "(II)V" } : Jvm.MethodName)) ∈ lw_all := lw_g (lw_at lw_m8 200 rfl) rfl
theorem q2032 : (Jvm.Cond.code ({ cls := "GuestViewModel", name := "isDone", desc := "(II)V" } : Jvm.MethodName) prog_19_method_56_code (4 : Nat) (Option.none : Option Jvm.ClassFile.FieldType)) ∈ lw_all := lw_g (lw_at lw_m8 201 rfl) rfl
theorem q2033 : (Jvm.Cond.methodLink "GuestViewModel" (343 : Nat) ({ cls := "GuestViewModel", name := "isModalIn", desc := "(II)Z" } : Jvm.MethodName)) ∈ lw_all := lw_g (lw_at lw_m8 202 rfl) rfl
theorem q2034 : (Jvm.Cond.privateMethod ({ cls := "GuestViewModel", name := "isModalIn", desc := "(II)Z" } : Jvm.MethodName)) ∈ lw_tbl := lw_at lw_m8 203 rfl
theorem q2035 : (Jvm.Cond.instanceMethod ({ cls := "GuestViewModel", name := "isModalIn", desc := "(II)Z" } : Jvm.MethodName)) ∈ lw_all := lw_g (lw_at lw_m8 204 rfl) rfl
theorem q2036 : (Jvm.Cond.code ({ cls := "GuestViewModel", name := "isModalIn", desc := "(II)Z" } : Jvm.MethodName) prog_19_method_66_code (3 : Nat) (Option.some Jvm.ClassFile.FieldType.boolean)) ∈ lw_all := lw_g (lw_at lw_m8 205 rfl) rfl
theorem q2037 : (Jvm.Cond.methodLink "GuestViewModel" (334 : Nat) ({ cls := "GuestViewModel", name := "keepsFirst", desc := "()V" } : Jvm.MethodName)) ∈ lw_all := lw_g (lw_at lw_m8 206 rfl) rfl
theorem q2038 : (Jvm.Cond.privateMethod ({ cls := "GuestViewModel", name := "keepsFirst", desc := "()V" } : Jvm.MethodName)) ∈ lw_tbl := lw_at lw_m8 207 rfl
theorem q2039 : (Jvm.Cond.instanceMethod ({ cls := "GuestViewModel", name := "keepsFirst", desc := "()V" } : Jvm.MethodName)) ∈ lw_all := lw_g (lw_at lw_m8 208 rfl) rfl
theorem q2040 : (Jvm.Cond.code ({ cls := "GuestViewModel", name := "keepsFirst", desc := "()V" } : Jvm.MethodName) prog_19_method_64_code (2 : Nat) (Option.none : Option Jvm.ClassFile.FieldType)) ∈ lw_all := lw_g (lw_at lw_m8 209 rfl) rfl
theorem q2041 : (Jvm.Cond.methodLink "GuestViewModel" (337 : Nat) ({ cls := "GuestViewModel", name := "isUnlike", desc := "(I)Z" } : Jvm.MethodName)) ∈ lw_all := lw_g (lw_at lw_m8 210 rfl) rfl
theorem q2042 : (Jvm.Cond.privateMethod ({ cls := "GuestViewModel", name := "isUnlike", desc := "(I)Z" } : Jvm.MethodName)) ∈ lw_tbl := lw_at lw_m8 211 rfl
theorem q2043 : (Jvm.Cond.instanceMethod ({ cls := "GuestViewModel", name := "isUnlike", desc := "(I)Z" } : Jvm.MethodName)) ∈ lw_all := lw_g (lw_at lw_m8 212 rfl) rfl
theorem q2044 : (Jvm.Cond.code ({ cls := "GuestViewModel", name := "isUnlike", desc := "(I)Z" } : Jvm.MethodName) prog_19_method_65_code (4 : Nat) (Option.some Jvm.ClassFile.FieldType.boolean)) ∈ lw_all := lw_g (lw_at lw_m8 213 rfl) rfl
theorem q2045 : (Jvm.Cond.methodLink "GuestViewModel" (346 : Nat) ({ cls := "GuestViewModel", name := "isLocalIn", desc := "(II)Z" } : Jvm.MethodName)) ∈ lw_all := lw_g (lw_at lw_m8 214 rfl) rfl
theorem q2046 : (Jvm.Cond.privateMethod ({ cls := "GuestViewModel", name := "isLocalIn", desc := "(II)Z" } : Jvm.MethodName)) ∈ lw_tbl := lw_at lw_m8 215 rfl
theorem q2047 : (Jvm.Cond.instanceMethod ({ cls := "GuestViewModel", name := "isLocalIn", desc := "(II)Z" } : Jvm.MethodName)) ∈ lw_all := lw_g (lw_at lw_m8 216 rfl) rfl
theorem q2048 : (Jvm.Cond.code ({ cls := "GuestViewModel", name := "isLocalIn", desc := "(II)Z" } : Jvm.MethodName) prog_19_method_67_code (3 : Nat) (Option.some Jvm.ClassFile.FieldType.boolean)) ∈ lw_all := lw_g (lw_at lw_m8 217 rfl) rfl
theorem q2049 : (Jvm.Cond.methodLink "GuestViewModel" (349 : Nat) ({ cls := "GuestViewModel", name := "isTimedIn", desc := "(II)Z" } : Jvm.MethodName)) ∈ lw_all := lw_g (lw_at lw_m8 218 rfl) rfl
theorem q2050 : (Jvm.Cond.privateMethod ({ cls := "GuestViewModel", name := "isTimedIn", desc := "(II)Z" } : Jvm.MethodName)) ∈ lw_tbl := lw_at lw_m8 219 rfl
theorem q2051 : (Jvm.Cond.instanceMethod ({ cls := "GuestViewModel", name := "isTimedIn", desc := "(II)Z" } : Jvm.MethodName)) ∈ lw_all := lw_g (lw_at lw_m8 220 rfl) rfl
theorem q2052 : (Jvm.Cond.code ({ cls := "GuestViewModel", name := "isTimedIn", desc := "(II)Z" } : Jvm.MethodName) prog_19_method_68_code (5 : Nat) (Option.some Jvm.ClassFile.FieldType.boolean)) ∈ lw_all := lw_g (lw_at lw_m8 221 rfl) rfl
theorem q2053 : (Jvm.Cond.methodLink "GuestViewModel" (371 : Nat) ({ cls := "GuestViewModel", name := "isSensitive", desc := "(I)Z" } : Jvm.MethodName)) ∈ lw_all := lw_g (lw_at lw_m8 222 rfl) rfl
theorem q2054 : (Jvm.Cond.privateMethod ({ cls := "GuestViewModel", name := "isSensitive", desc := "(I)Z" } : Jvm.MethodName)) ∈ lw_tbl := lw_at lw_m8 223 rfl
theorem q2055 : (Jvm.Cond.instanceMethod ({ cls := "GuestViewModel", name := "isSensitive", desc := "(I)Z" } : Jvm.MethodName)) ∈ lw_all := lw_g (lw_at lw_m8 224 rfl) rfl
theorem q2056 : (Jvm.Cond.code ({ cls := "GuestViewModel", name := "isSensitive", desc := "(I)Z" } : Jvm.MethodName) prog_19_method_73_code (2 : Nat) (Option.some Jvm.ClassFile.FieldType.boolean)) ∈ lw_all := lw_g (lw_at lw_m8 225 rfl) rfl
theorem q2057 : (Jvm.Cond.methodLink "GuestViewModel" (405 : Nat) ({ cls := "GuestViewModel", name := "emulationOf", desc := "(I)I" } : Jvm.MethodName)) ∈ lw_all := lw_g (lw_at lw_m8 226 rfl) rfl
theorem q2058 : (Jvm.Cond.privateMethod ({ cls := "GuestViewModel", name := "emulationOf", desc := "(I)I" } : Jvm.MethodName)) ∈ lw_tbl := lw_at lw_m8 227 rfl
theorem q2059 : (Jvm.Cond.instanceMethod ({ cls := "GuestViewModel", name := "emulationOf", desc := "(I)I" } : Jvm.MethodName)) ∈ lw_all := lw_g (lw_at lw_m8 228 rfl) rfl
theorem q2060 : (Jvm.Cond.code ({ cls := "GuestViewModel", name := "emulationOf", desc := "(I)I" } : Jvm.MethodName) prog_19_method_78_code (2 : Nat) (Option.some Jvm.ClassFile.FieldType.int)) ∈ lw_all := lw_g (lw_at lw_m8 229 rfl) rfl
theorem q2061 : (Jvm.Cond.methodLink "GuestViewModel" (381 : Nat) ({ cls := "GuestViewModel", name := "sumOf", desc := "(II)I" } : Jvm.MethodName)) ∈ lw_all := lw_g (lw_at lw_m8 230 rfl) rfl
theorem q2062 : (Jvm.Cond.privateMethod ({ cls := "GuestViewModel", name := "sumOf", desc := "(II)I" } : Jvm.MethodName)) ∈ lw_tbl := lw_at lw_m8 231 rfl
theorem q2063 : (Jvm.Cond.instanceMethod ({ cls := "GuestViewModel", name := "sumOf", desc := "(II)I" } : Jvm.MethodName)) ∈ lw_all := lw_g (lw_at lw_m8 232 rfl) rfl
theorem q2064 : (Jvm.Cond.code ({ cls := "GuestViewModel", name := "sumOf", desc := "(II)I" } : Jvm.MethodName) prog_19_method_77_code (5 : Nat) (Option.some Jvm.ClassFile.FieldType.int)) ∈ lw_all := lw_g (lw_at lw_m8 233 rfl) rfl
theorem q2065 : (Jvm.Cond.methodLink "GuestViewModel" (378 : Nat) ({ cls := "GuestViewModel", name := "holdsLine", desc := "(II)Z" } : Jvm.MethodName)) ∈ lw_all := lw_g (lw_at lw_m8 234 rfl) rfl
theorem q2066 : (Jvm.Cond.privateMethod ({ cls := "GuestViewModel", name := "holdsLine", desc := "(II)Z" } : Jvm.MethodName)) ∈ lw_tbl := lw_at lw_m8 235 rfl
theorem q2067 : (Jvm.Cond.instanceMethod ({ cls := "GuestViewModel", name := "holdsLine", desc := "(II)Z" } : Jvm.MethodName)) ∈ lw_all := lw_g (lw_at lw_m8 236 rfl) rfl
theorem q2068 : (Jvm.Cond.code ({ cls := "GuestViewModel", name := "holdsLine", desc := "(II)Z" } : Jvm.MethodName) prog_19_method_76_code (10 : Nat) (Option.some Jvm.ClassFile.FieldType.boolean)) ∈ lw_all := lw_g (lw_at lw_m8 237 rfl) rfl
theorem q2069 : (Jvm.Cond.methodLink "GuestViewModel" (374 : Nat) ({ cls := "GuestViewModel", name := "factOf", desc := "(III)I" } : Jvm.MethodName)) ∈ lw_all := lw_g (lw_at lw_m8 238 rfl) rfl
theorem q2070 : (Jvm.Cond.privateMethod ({ cls := "GuestViewModel", name := "factOf", desc := "(III)I" } : Jvm.MethodName)) ∈ lw_tbl := lw_at lw_m8 239 rfl
theorem q2071 : (Jvm.Cond.instanceMethod ({ cls := "GuestViewModel", name := "factOf", desc := "(III)I" } : Jvm.MethodName)) ∈ lw_all := lw_g (lw_at lw_m9 0 rfl) rfl
theorem q2072 : (Jvm.Cond.code ({ cls := "GuestViewModel", name := "factOf", desc := "(III)I" } : Jvm.MethodName) prog_19_method_75_code (4 : Nat) (Option.some Jvm.ClassFile.FieldType.int)) ∈ lw_all := lw_g (lw_at lw_m9 1 rfl) rfl
theorem q2073 : (Jvm.Cond.methodLink "GuestViewModel" (368 : Nat) ({ cls := "GuestViewModel", name := "usesOf", desc := "(I)I" } : Jvm.MethodName)) ∈ lw_all := lw_g (lw_at lw_m9 2 rfl) rfl
theorem q2074 : (Jvm.Cond.privateMethod ({ cls := "GuestViewModel", name := "usesOf", desc := "(I)I" } : Jvm.MethodName)) ∈ lw_tbl := lw_at lw_m9 3 rfl
theorem q2075 : (Jvm.Cond.instanceMethod ({ cls := "GuestViewModel", name := "usesOf", desc := "(I)I" } : Jvm.MethodName)) ∈ lw_all := lw_g (lw_at lw_m9 4 rfl) rfl
theorem q2076 : (Jvm.Cond.code ({ cls := "GuestViewModel", name := "usesOf", desc := "(I)I" } : Jvm.MethodName) prog_19_method_74_code (4 : Nat) (Option.some Jvm.ClassFile.FieldType.int)) ∈ lw_all := lw_g (lw_at lw_m9 5 rfl) rfl
theorem q2077 : (Jvm.Cond.methodLink "GuestViewModel" (420 : Nat) ({ cls := "GuestViewModel", name := "worthOf", desc := "(I)I" } : Jvm.MethodName)) ∈ lw_all := lw_g (lw_at lw_m9 6 rfl) rfl
theorem q2078 : (Jvm.Cond.privateMethod ({ cls := "GuestViewModel", name := "worthOf", desc := "(I)I" } : Jvm.MethodName)) ∈ lw_tbl := lw_at lw_m9 7 rfl
theorem q2079 : (Jvm.Cond.instanceMethod ({ cls := "GuestViewModel", name := "worthOf", desc := "(I)I" } : Jvm.MethodName)) ∈ lw_all := lw_g (lw_at lw_m9 8 rfl) rfl
theorem q2080 : (Jvm.Cond.code ({ cls := "GuestViewModel", name := "worthOf", desc := "(I)I" } : Jvm.MethodName) prog_19_method_79_code (2 : Nat) (Option.some Jvm.ClassFile.FieldType.int)) ∈ lw_all := lw_g (lw_at lw_m9 9 rfl) rfl
theorem q2082 : (Jvm.Cond.instanceMethod ({ cls := "GuestViewModel", name := "micro", desc := "(IIZ)I" } : Jvm.MethodName)) ∈ lw_all := lw_g (lw_at lw_m9 11 rfl) rfl
theorem q2083 : (Jvm.Cond.selects "GuestViewModel" ({ cls := "GuestViewModel", name := "micro", desc := "(IIZ)I" } : Jvm.MethodName) ({ cls := "GuestViewModel", name := "micro", desc := "(IIZ)I" } : Jvm.MethodName)) ∈ lw_all := lw_g (lw_at lw_m9 12 rfl) rfl
theorem q2084 : (Jvm.Cond.code ({ cls := "GuestViewModel", name := "micro", desc := "(IIZ)I" } : Jvm.MethodName) prog_19_method_91_code (4 : Nat) (Option.some Jvm.ClassFile.FieldType.int)) ∈ lw_all := lw_g (lw_at lw_m9 13 rfl) rfl
theorem q2086 : (Jvm.Cond.instanceMethod ({ cls := "GuestViewModel", name := "witness", desc := "(II)I" } : Jvm.MethodName)) ∈ lw_all := lw_g (lw_at lw_m9 15 rfl) rfl
theorem q2087 : (Jvm.Cond.selects "GuestViewModel" ({ cls := "GuestViewModel", name := "witness", desc := "(II)I" } : Jvm.MethodName) ({ cls := "GuestViewModel", name := "witness", desc := "(II)I" } : Jvm.MethodName)) ∈ lw_all := lw_g (lw_at lw_m9 16 rfl) rfl
theorem q2088 : (Jvm.Cond.code ({ cls := "GuestViewModel", name := "witness", desc := "(II)I" } : Jvm.MethodName) prog_19_method_92_code (3 : Nat) (Option.some Jvm.ClassFile.FieldType.int)) ∈ lw_all := lw_g (lw_at lw_m9 17 rfl) rfl
theorem q2090 : (Jvm.Cond.instanceMethod ({ cls := "GuestViewModel", name := "done", desc := "(III)I" } : Jvm.MethodName)) ∈ lw_all := lw_g (lw_at lw_m9 19 rfl) rfl
theorem q2091 : (Jvm.Cond.selects "GuestViewModel" ({ cls := "GuestViewModel", name := "done", desc := "(III)I" } : Jvm.MethodName) ({ cls := "GuestViewModel", name := "done", desc := "(III)I" } : Jvm.MethodName)) ∈ lw_all := lw_g (lw_at lw_m9 20 rfl) rfl
theorem q2092 : (Jvm.Cond.code ({ cls := "GuestViewModel", name := "done", desc := "(III)I" } : Jvm.MethodName) prog_19_method_93_code (5 : Nat) (Option.some Jvm.ClassFile.FieldType.int)) ∈ lw_all := lw_g (lw_at lw_m9 21 rfl) rfl
theorem q2094 : (Jvm.Cond.instanceMethod ({ cls := "GuestViewModel", name := "program", desc := "(I)I" } : Jvm.MethodName)) ∈ lw_all := lw_g (lw_at lw_m9 23 rfl) rfl
theorem q2095 : (Jvm.Cond.selects "GuestViewModel" ({ cls := "GuestViewModel", name := "program", desc := "(I)I" } : Jvm.MethodName) ({ cls := "GuestViewModel", name := "program", desc := "(I)I" } : Jvm.MethodName)) ∈ lw_all := lw_g (lw_at lw_m9 24 rfl) rfl
theorem q2096 : (Jvm.Cond.code ({ cls := "GuestViewModel", name := "program", desc := "(I)I" } : Jvm.MethodName) prog_19_method_94_code (2 : Nat) (Option.some Jvm.ClassFile.FieldType.int)) ∈ lw_all := lw_g (lw_at lw_m9 25 rfl) rfl
theorem q2098 : (Jvm.Cond.instanceMethod ({ cls := "GuestViewModel", name := "cell", desc := "(I)I" } : Jvm.MethodName)) ∈ lw_all := lw_g (lw_at lw_m9 27 rfl) rfl
theorem q2099 : (Jvm.Cond.selects "GuestViewModel" ({ cls := "GuestViewModel", name := "cell", desc := "(I)I" } : Jvm.MethodName) ({ cls := "GuestViewModel", name := "cell", desc := "(I)I" } : Jvm.MethodName)) ∈ lw_all := lw_g (lw_at lw_m9 28 rfl) rfl
theorem q2100 : (Jvm.Cond.code ({ cls := "GuestViewModel", name := "cell", desc := "(I)I" } : Jvm.MethodName) prog_19_method_96_code (2 : Nat) (Option.some Jvm.ClassFile.FieldType.int)) ∈ lw_all := lw_g (lw_at lw_m9 29 rfl) rfl
theorem q2101 : (Jvm.Cond.methodLink "GuestViewModel" (436 : Nat) ({ cls := "GuestViewModel", name := "noCell", desc := "(I)Z" } : Jvm.MethodName)) ∈ lw_all := lw_g (lw_at lw_m9 30 rfl) rfl
theorem q2102 : (Jvm.Cond.privateMethod ({ cls := "GuestViewModel", name := "noCell", desc := "(I)Z" } : Jvm.MethodName)) ∈ lw_tbl := lw_at lw_m9 31 rfl
theorem q2103 : (Jvm.Cond.instanceMethod ({ cls := "GuestViewModel", name := "noCell", desc := "(I)Z" } : Jvm.MethodName)) ∈ lw_all := lw_g (lw_at lw_m9 32 rfl) rfl
theorem q2104 : (Jvm.Cond.code ({ cls := "GuestViewModel", name := "noCell", desc := "(I)Z" } : Jvm.MethodName) prog_19_method_95_code (2 : Nat) (Option.some Jvm.ClassFile.FieldType.boolean)) ∈ lw_all := lw_g (lw_at lw_m9 33 rfl) rfl
theorem q2106 : (Jvm.Cond.instanceMethod ({ cls := "GuestViewModel", name := "guest", desc := "(ZI)I" } : Jvm.MethodName)) ∈ lw_all := lw_g (lw_at lw_m9 35 rfl) rfl
theorem q2107 : (Jvm.Cond.selects "GuestViewModel" ({ cls := "GuestViewModel", name := "guest", desc := "(ZI)I" } : Jvm.MethodName) ({ cls := "GuestViewModel", name := "guest", desc := "(ZI)I" } : Jvm.MethodName)) ∈ lw_all := lw_g (lw_at lw_m9 36 rfl) rfl
theorem q2108 : (Jvm.Cond.code ({ cls := "GuestViewModel", name := "guest", desc := "(ZI)I" } : Jvm.MethodName) prog_19_method_97_code (4 : Nat) (Option.some Jvm.ClassFile.FieldType.int)) ∈ lw_all := lw_g (lw_at lw_m9 37 rfl) rfl
theorem q2109 : (Jvm.Cond.methodLink "GuestViewModel" (392 : Nat) ({ cls := "GuestViewModel", name := "isHalted", desc := "(I)Z" } : Jvm.MethodName)) ∈ lw_all := lw_g (lw_at lw_m9 38 rfl) rfl
theorem q2110 : (Jvm.Cond.privateMethod ({ cls := "GuestViewModel", name := "isHalted", desc := "(I)Z" } : Jvm.MethodName)) ∈ lw_tbl := lw_at lw_m9 39 rfl
theorem q2111 : (Jvm.Cond.instanceMethod ({ cls := "GuestViewModel", name := "isHalted", desc := "(I)Z" } : Jvm.MethodName)) ∈ lw_all := lw_g (lw_at lw_m9 40 rfl) rfl
theorem q2112 : (Jvm.Cond.code ({ cls := "GuestViewModel", name := "isHalted", desc := "(I)Z" } : Jvm.MethodName) prog_19_method_80_code (2 : Nat) (Option.some Jvm.ClassFile.FieldType.boolean)) ∈ lw_all := lw_g (lw_at lw_m9 41 rfl) rfl
theorem q2113 : (Jvm.Cond.methodLink "GuestViewModel" (384 : Nat) ({ cls := "GuestViewModel", name := "ofGuest", desc := "(II)I" } : Jvm.MethodName)) ∈ lw_all := lw_g (lw_at lw_m9 42 rfl) rfl
theorem q2114 : (Jvm.Cond.privateMethod ({ cls := "GuestViewModel", name := "ofGuest", desc := "(II)I" } : Jvm.MethodName)) ∈ lw_tbl := lw_at lw_m9 43 rfl
theorem q2115 : (Jvm.Cond.instanceMethod ({ cls := "GuestViewModel", name := "ofGuest", desc := "(II)I" } : Jvm.MethodName)) ∈ lw_all := lw_g (lw_at lw_m9 44 rfl) rfl
theorem q2116 : (Jvm.Cond.code ({ cls := "GuestViewModel", name := "ofGuest", desc := "(II)I" } : Jvm.MethodName) prog_19_method_18_code (3 : Nat) (Option.some Jvm.ClassFile.FieldType.int)) ∈ lw_all := lw_g (lw_at lw_m9 45 rfl) rfl
theorem q2118 : (Jvm.Cond.instanceMethod ({ cls := "GuestViewModel", name := "ticks", desc := "(I)I" } : Jvm.MethodName)) ∈ lw_all := lw_g (lw_at lw_m9 47 rfl) rfl
theorem q2119 : (Jvm.Cond.selects "GuestViewModel" ({ cls := "GuestViewModel", name := "ticks", desc := "(I)I" } : Jvm.MethodName) ({ cls := "GuestViewModel", name := "ticks", desc := "(I)I" } : Jvm.MethodName)) ∈ lw_all := lw_g (lw_at lw_m9 48 rfl) rfl
theorem q2120 : (Jvm.Cond.code ({ cls := "GuestViewModel", name := "ticks", desc := "(I)I" } : Jvm.MethodName) prog_19_method_98_code (2 : Nat) (Option.some Jvm.ClassFile.FieldType.int)) ∈ lw_all := lw_g (lw_at lw_m9 49 rfl) rfl
theorem q2121 : (Jvm.Cond.methodLink "GuestViewModel" (439 : Nat) ({ cls := "GuestViewModel", name := "remembers", desc := "()V" } : Jvm.MethodName)) ∈ lw_all := lw_g (lw_at lw_m9 50 rfl) rfl
theorem q2122 : (Jvm.Cond.privateMethod ({ cls := "GuestViewModel", name := "remembers", desc := "()V" } : Jvm.MethodName)) ∈ lw_tbl := lw_at lw_m9 51 rfl
theorem q2123 : (Jvm.Cond.instanceMethod ({ cls := "GuestViewModel", name := "remembers", desc := "()V" } : Jvm.MethodName)) ∈ lw_all := lw_g (lw_at lw_m9 52 rfl) rfl
theorem q2124 : (Jvm.Cond.code ({ cls := "GuestViewModel", name := "remembers", desc := "()V" } : Jvm.MethodName) prog_19_method_8_code (2 : Nat) (Option.none : Option Jvm.ClassFile.FieldType)) ∈ lw_all := lw_g (lw_at lw_m9 53 rfl) rfl
theorem q2125 : (Jvm.Cond.methodLink "GuestViewModel" (442 : Nat) ({ cls := "GuestViewModel", name := "goesOn", desc := "(IZ)I" } : Jvm.MethodName)) ∈ lw_all := lw_g (lw_at lw_m9 54 rfl) rfl
theorem q2126 : (Jvm.Cond.privateMethod ({ cls := "GuestViewModel", name := "goesOn", desc := "(IZ)I" } : Jvm.MethodName)) ∈ lw_tbl := lw_at lw_m9 55 rfl
theorem q2127 : (Jvm.Cond.instanceMethod ({ cls := "GuestViewModel", name := "goesOn", desc := "(IZ)I" } : Jvm.MethodName)) ∈ lw_all := lw_g (lw_at lw_m9 56 rfl) rfl
theorem q2128 : (Jvm.Cond.code ({ cls := "GuestViewModel", name := "goesOn", desc := "(IZ)I" } : Jvm.MethodName) prog_19_method_89_code (5 : Nat) (Option.some Jvm.ClassFile.FieldType.int)) ∈ lw_all := lw_g (lw_at lw_m9 57 rfl) rfl
theorem q2129 : (Jvm.Cond.methodLink "GuestViewModel" (426 : Nat) ({ cls := "GuestViewModel", name := "drawn", desc := "(I)I" } : Jvm.MethodName)) ∈ lw_all := lw_g (lw_at lw_m9 58 rfl) rfl
theorem q2130 : (Jvm.Cond.privateMethod ({ cls := "GuestViewModel", name := "drawn", desc := "(I)I" } : Jvm.MethodName)) ∈ lw_tbl := lw_at lw_m9 59 rfl
theorem q2131 : (Jvm.Cond.instanceMethod ({ cls := "GuestViewModel", name := "drawn", desc := "(I)I" } : Jvm.MethodName)) ∈ lw_all := lw_g (lw_at lw_m9 60 rfl) rfl
theorem q2132 : (Jvm.Cond.code ({ cls := "GuestViewModel", name := "drawn", desc := "(I)I" } : Jvm.MethodName) prog_19_method_20_code (2 : Nat) (Option.some Jvm.ClassFile.FieldType.int)) ∈ lw_all := lw_g (lw_at lw_m9 61 rfl) rfl
theorem q2133 : (Jvm.Cond.constant "GuestViewModel" (92 : Nat) (1103515245 : Int32)) ∈ lw_all := lw_g (lw_at lw_m9 62 rfl) rfl
theorem q2134 : (Jvm.Cond.methodLink "GuestViewModel" (429 : Nat) ({ cls := "GuestViewModel", name := "oneTick", desc := "(Z)Z" } : Jvm.MethodName)) ∈ lw_all := lw_g (lw_at lw_m9 63 rfl) rfl
theorem q2135 : (Jvm.Cond.privateMethod ({ cls := "GuestViewModel", name := "oneTick", desc := "(Z)Z" } : Jvm.MethodName)) ∈ lw_tbl := lw_at lw_m9 64 rfl
theorem q2136 : (Jvm.Cond.instanceMethod ({ cls := "GuestViewModel", name := "oneTick", desc := "(Z)Z" } : Jvm.MethodName)) ∈ lw_all := lw_g (lw_at lw_m9 65 rfl) rfl
theorem q2137 : (Jvm.Cond.code ({ cls := "GuestViewModel", name := "oneTick", desc := "(Z)Z" } : Jvm.MethodName) prog_19_method_88_code (7 : Nat) (Option.some Jvm.ClassFile.FieldType.boolean)) ∈ lw_all := lw_g (lw_at lw_m9 66 rfl) rfl
theorem q2138 : (Jvm.Cond.methodLink "GuestViewModel" (408 : Nat) ({ cls := "GuestViewModel", name := "areAlike", desc := "()Z" } : Jvm.MethodName)) ∈ lw_all := lw_g (lw_at lw_m9 67 rfl) rfl
theorem q2139 : (Jvm.Cond.privateMethod ({ cls := "GuestViewModel", name := "areAlike", desc := "()Z" } : Jvm.MethodName)) ∈ lw_tbl := lw_at lw_m9 68 rfl
theorem q2140 : (Jvm.Cond.instanceMethod ({ cls := "GuestViewModel", name := "areAlike", desc := "()Z" } : Jvm.MethodName)) ∈ lw_all := lw_g (lw_at lw_m9 69 rfl) rfl
theorem q2141 : (Jvm.Cond.code ({ cls := "GuestViewModel", name := "areAlike", desc := "()Z" } : Jvm.MethodName) prog_19_method_86_code (3 : Nat) (Option.some Jvm.ClassFile.FieldType.boolean)) ∈ lw_all := lw_g (lw_at lw_m9 70 rfl) rfl
theorem q2142 : (Jvm.Cond.methodLink "GuestViewModel" (411 : Nat) ({ cls := "GuestViewModel", name := "isTold", desc := "(III)V" } : Jvm.MethodName)) ∈ lw_all := lw_g (lw_at lw_m9 71 rfl) rfl
theorem q2143 : (Jvm.Cond.privateMethod ({ cls := "GuestViewModel", name := "isTold", desc := "(III)V" } : Jvm.MethodName)) ∈ lw_tbl := lw_at lw_m9 72 rfl
theorem q2144 : (Jvm.Cond.instanceMethod ({ cls := "GuestViewModel", name := "isTold", desc := "(III)V" } : Jvm.MethodName)) ∈ lw_all := lw_g (lw_at lw_m9 73 rfl) rfl
theorem q2145 : (Jvm.Cond.code ({ cls := "GuestViewModel", name := "isTold", desc := "(III)V" } : Jvm.MethodName) prog_19_method_87_code (5 : Nat) (Option.none : Option Jvm.ClassFile.FieldType)) ∈ lw_all := lw_g (lw_at lw_m9 74 rfl) rfl
theorem q2146 : (Jvm.Cond.methodLink "GuestViewModel" (387 : Nat) ({ cls := "java/lang/Math", name := "min", desc := "(II)I" } : Jvm.MethodName)) ∈ lw_all := lw_g (lw_at lw_m9 75 rfl) rfl
theorem q2147 : (Jvm.Cond.methodLink "GuestViewModel" (395 : Nat) ({ cls := "GuestViewModel", name := "isCaught", desc := "(I)V" } : Jvm.MethodName)) ∈ lw_all := lw_g (lw_at lw_m9 76 rfl) rfl
theorem q2148 : (Jvm.Cond.privateMethod ({ cls := "GuestViewModel", name := "isCaught", desc := "(I)V" } : Jvm.MethodName)) ∈ lw_tbl := lw_at lw_m9 77 rfl
theorem q2149 : (Jvm.Cond.instanceMethod ({ cls := "GuestViewModel", name := "isCaught", desc := "(I)V" } : Jvm.MethodName)) ∈ lw_all := lw_g (lw_at lw_m9 78 rfl) rfl
theorem q2150 : (Jvm.Cond.code ({ cls := "GuestViewModel", name := "isCaught", desc := "(I)V" } : Jvm.MethodName) prog_19_method_83_code (2 : Nat) (Option.none : Option Jvm.ClassFile.FieldType)) ∈ lw_all := lw_g (lw_at lw_m9 79 rfl) rfl
theorem q2151 : (Jvm.Cond.methodLink "GuestViewModel" (414 : Nat) ({ cls := "GuestViewModel", name := "bareSteps", desc := "()V" } : Jvm.MethodName)) ∈ lw_all := lw_g (lw_at lw_m9 80 rfl) rfl
theorem q2152 : (Jvm.Cond.privateMethod ({ cls := "GuestViewModel", name := "bareSteps", desc := "()V" } : Jvm.MethodName)) ∈ lw_tbl := lw_at lw_m9 81 rfl
theorem q2153 : (Jvm.Cond.instanceMethod ({ cls := "GuestViewModel", name := "bareSteps", desc := "()V" } : Jvm.MethodName)) ∈ lw_all := lw_g (lw_at lw_m9 82 rfl) rfl
theorem q2154 : (Jvm.Cond.code ({ cls := "GuestViewModel", name := "bareSteps", desc := "()V" } : Jvm.MethodName) prog_19_method_84_code (2 : Nat) (Option.none : Option Jvm.ClassFile.FieldType)) ∈ lw_all := lw_g (lw_at lw_m9 83 rfl) rfl
theorem q2155 : (Jvm.Cond.methodLink "GuestViewModel" (398 : Nat) ({ cls := "GuestViewModel", name := "comes", desc := "(III)V" } : Jvm.MethodName)) ∈ lw_all := lw_g (lw_at lw_m9 84 rfl) rfl
theorem q2156 : (Jvm.Cond.privateMethod ({ cls := "GuestViewModel", name := "comes", desc := "(III)V" } : Jvm.MethodName)) ∈ lw_tbl := lw_at lw_m9 85 rfl
theorem q2157 : (Jvm.Cond.instanceMethod ({ cls := "GuestViewModel", name := "comes", desc := "(III)V" } : Jvm.MethodName)) ∈ lw_all := lw_g (lw_at lw_m9 86 rfl) rfl
theorem q2158 : (Jvm.Cond.code ({ cls := "GuestViewModel", name := "comes", desc := "(III)V" } : Jvm.MethodName) prog_19_method_81_code (5 : Nat) (Option.none : Option Jvm.ClassFile.FieldType)) ∈ lw_all := lw_g (lw_at lw_m9 87 rfl) rfl
theorem q2159 : (Jvm.Cond.methodLink "GuestViewModel" (402 : Nat) ({ cls := "GuestViewModel", name := "goes", desc := "(II)V" } : Jvm.MethodName)) ∈ lw_all := lw_g (lw_at lw_m9 88 rfl) rfl
theorem q2160 : (Jvm.Cond.privateMethod ({ cls := "GuestViewModel", name := "goes", desc := "(II)V" } : Jvm.MethodName)) ∈ lw_tbl := lw_at lw_m9 89 rfl
theorem q2161 : (Jvm.Cond.instanceMethod ({ cls := "GuestViewModel", name := "goes", desc := "(II)V" } : Jvm.MethodName)) ∈ lw_all := lw_g (lw_at lw_m9 90 rfl) rfl
theorem q2162 : (Jvm.Cond.code ({ cls := "GuestViewModel", name := "goes", desc := "(II)V" } : Jvm.MethodName) prog_19_method_82_code (4 : Nat) (Option.none : Option Jvm.ClassFile.FieldType)) ∈ lw_all := lw_g (lw_at lw_m9 91 rfl) rfl
theorem q2163 : (Jvm.Cond.methodLink "GuestViewModel" (417 : Nat) ({ cls := "GuestViewModel", name := "hostedSteps", desc := "()I" } : Jvm.MethodName)) ∈ lw_all := lw_g (lw_at lw_m9 92 rfl) rfl
theorem q2164 : (Jvm.Cond.privateMethod ({ cls := "GuestViewModel", name := "hostedSteps", desc := "()I" } : Jvm.MethodName)) ∈ lw_tbl := lw_at lw_m9 93 rfl
theorem q2165 : (Jvm.Cond.instanceMethod ({ cls := "GuestViewModel", name := "hostedSteps", desc := "()I" } : Jvm.MethodName)) ∈ lw_all := lw_g (lw_at lw_m9 94 rfl) rfl
theorem q2166 : (Jvm.Cond.code ({ cls := "GuestViewModel", name := "hostedSteps", desc := "()I" } : Jvm.MethodName) prog_19_method_85_code (4 : Nat) (Option.some Jvm.ClassFile.FieldType.int)) ∈ lw_all := lw_g (lw_at lw_m9 95 rfl) rfl
theorem q2168 : (Jvm.Cond.instanceMethod ({ cls := "GuestViewModel", name := "boot", desc := "()V" } : Jvm.MethodName)) ∈ lw_all := lw_g (lw_at lw_m9 97 rfl) rfl
theorem q2169 : (Jvm.Cond.selects "GuestViewModel" ({ cls := "GuestViewModel", name := "boot", desc := "()V" } : Jvm.MethodName) ({ cls := "GuestViewModel", name := "boot", desc := "()V" } : Jvm.MethodName)) ∈ lw_all := lw_g (lw_at lw_m9 98 rfl) rfl
theorem q2170 : (Jvm.Cond.code ({ cls := "GuestViewModel", name := "boot", desc := "()V" } : Jvm.MethodName) prog_19_method_99_code (1 : Nat) (Option.none : Option Jvm.ClassFile.FieldType)) ∈ lw_all := lw_g (lw_at lw_m9 99 rfl) rfl
theorem q2172 : (Jvm.Cond.instanceMethod ({ cls := "GuestViewModel", name := "patch", desc := "(IZ)Z" } : Jvm.MethodName)) ∈ lw_all := lw_g (lw_at lw_m9 101 rfl) rfl
theorem q2173 : (Jvm.Cond.selects "GuestViewModel" ({ cls := "GuestViewModel", name := "patch", desc := "(IZ)Z" } : Jvm.MethodName) ({ cls := "GuestViewModel", name := "patch", desc := "(IZ)Z" } : Jvm.MethodName)) ∈ lw_all := lw_g (lw_at lw_m9 102 rfl) rfl
theorem q2174 : (Jvm.Cond.code ({ cls := "GuestViewModel", name := "patch", desc := "(IZ)Z" } : Jvm.MethodName) prog_19_method_102_code (3 : Nat) (Option.some Jvm.ClassFile.FieldType.boolean)) ∈ lw_all := lw_g (lw_at lw_m9 103 rfl) rfl
theorem q2175 : (Jvm.Cond.methodLink "GuestViewModel" (449 : Nat) ({ cls := "GuestViewModel", name := "isSet", desc := "(IIZ)Z" } : Jvm.MethodName)) ∈ lw_all := lw_g (lw_at lw_m9 104 rfl) rfl
theorem q2176 : (Jvm.Cond.privateMethod ({ cls := "GuestViewModel", name := "isSet", desc := "(IIZ)Z" } : Jvm.MethodName)) ∈ lw_tbl := lw_at lw_m9 105 rfl
theorem q2177 : (Jvm.Cond.instanceMethod ({ cls := "GuestViewModel", name := "isSet", desc := "(IIZ)Z" } : Jvm.MethodName)) ∈ lw_all := lw_g (lw_at lw_m9 106 rfl) rfl
theorem q2178 : (Jvm.Cond.code ({ cls := "GuestViewModel", name := "isSet", desc := "(IIZ)Z" } : Jvm.MethodName) prog_19_method_101_code (5 : Nat) (Option.some Jvm.ClassFile.FieldType.boolean)) ∈ lw_all := lw_g (lw_at lw_m9 107 rfl) rfl
theorem q2179 : (Jvm.Cond.methodLink "GuestViewModel" (446 : Nat) ({ cls := "GuestViewModel", name := "isTuned", desc := "(II)I" } : Jvm.MethodName)) ∈ lw_all := lw_g (lw_at lw_m9 108 rfl) rfl
theorem q2180 : (Jvm.Cond.privateMethod ({ cls := "GuestViewModel", name := "isTuned", desc := "(II)I" } : Jvm.MethodName)) ∈ lw_tbl := lw_at lw_m9 109 rfl
theorem q2181 : (Jvm.Cond.instanceMethod ({ cls := "GuestViewModel", name := "isTuned", desc := "(II)I" } : Jvm.MethodName)) ∈ lw_all := lw_g (lw_at lw_m9 110 rfl) rfl
theorem q2182 : (Jvm.Cond.code ({ cls := "GuestViewModel", name := "isTuned", desc := "(II)I" } : Jvm.MethodName) prog_19_method_100_code (4 : Nat) (Option.some Jvm.ClassFile.FieldType.int)) ∈ lw_all := lw_g (lw_at lw_m9 111 rfl) rfl
theorem q2184 : (Jvm.Cond.instanceMethod ({ cls := "GuestViewModel", name := "guard", desc := "(IZ)Z" } : Jvm.MethodName)) ∈ lw_all := lw_g (lw_at lw_m9 113 rfl) rfl
theorem q2185 : (Jvm.Cond.selects "GuestViewModel" ({ cls := "GuestViewModel", name := "guard", desc := "(IZ)Z" } : Jvm.MethodName) ({ cls := "GuestViewModel", name := "guard", desc := "(IZ)Z" } : Jvm.MethodName)) ∈ lw_all := lw_g (lw_at lw_m9 114 rfl) rfl
theorem q2186 : (Jvm.Cond.code ({ cls := "GuestViewModel", name := "guard", desc := "(IZ)Z" } : Jvm.MethodName) prog_19_method_103_code (3 : Nat) (Option.some Jvm.ClassFile.FieldType.boolean)) ∈ lw_all := lw_g (lw_at lw_m9 115 rfl) rfl
theorem q2188 : (Jvm.Cond.instanceMethod ({ cls := "GuestViewModel", name := "put", desc := "(II)I" } : Jvm.MethodName)) ∈ lw_all := lw_g (lw_at lw_m9 117 rfl) rfl
theorem q2189 : (Jvm.Cond.selects "GuestViewModel" ({ cls := "GuestViewModel", name := "put", desc := "(II)I" } : Jvm.MethodName) ({ cls := "GuestViewModel", name := "put", desc := "(II)I" } : Jvm.MethodName)) ∈ lw_all := lw_g (lw_at lw_m9 118 rfl) rfl
theorem q2190 : (Jvm.Cond.code ({ cls := "GuestViewModel", name := "put", desc := "(II)I" } : Jvm.MethodName) prog_19_method_104_code (5 : Nat) (Option.some Jvm.ClassFile.FieldType.int)) ∈ lw_all := lw_g (lw_at lw_m9 119 rfl) rfl
theorem q2192 : (Jvm.Cond.instanceMethod ({ cls := "GuestViewModel", name := "store", desc := "(II)I" } : Jvm.MethodName)) ∈ lw_all := lw_g (lw_at lw_m9 121 rfl) rfl
theorem q2193 : (Jvm.Cond.selects "GuestViewModel" ({ cls := "GuestViewModel", name := "store", desc := "(II)I" } : Jvm.MethodName) ({ cls := "GuestViewModel", name := "store", desc := "(II)I" } : Jvm.MethodName)) ∈ lw_all := lw_g (lw_at lw_m9 122 rfl) rfl
theorem q2194 : (Jvm.Cond.code ({ cls := "GuestViewModel", name := "store", desc := "(II)I" } : Jvm.MethodName) prog_19_method_105_code (3 : Nat) (Option.some Jvm.ClassFile.FieldType.int)) ∈ lw_all := lw_g (lw_at lw_m9 123 rfl) rfl
theorem q2196 : (Jvm.Cond.instanceMethod ({ cls := "GuestViewModel", name := "vector", desc := "(I)I" } : Jvm.MethodName)) ∈ lw_all := lw_g (lw_at lw_m9 125 rfl) rfl
theorem q2197 : (Jvm.Cond.selects "GuestViewModel" ({ cls := "GuestViewModel", name := "vector", desc := "(I)I" } : Jvm.MethodName) ({ cls := "GuestViewModel", name := "vector", desc := "(I)I" } : Jvm.MethodName)) ∈ lw_all := lw_g (lw_at lw_m9 126 rfl) rfl
theorem q2198 : (Jvm.Cond.code ({ cls := "GuestViewModel", name := "vector", desc := "(I)I" } : Jvm.MethodName) prog_19_method_107_code (2 : Nat) (Option.some Jvm.ClassFile.FieldType.int)) ∈ lw_all := lw_g (lw_at lw_m9 127 rfl) rfl
theorem q2199 : (Jvm.Cond.methodLink "GuestViewModel" (453 : Nat) ({ cls := "GuestViewModel", name := "isFigure", desc := "(III)I" } : Jvm.MethodName)) ∈ lw_all := lw_g (lw_at lw_m9 128 rfl) rfl
theorem q2200 : (Jvm.Cond.privateMethod ({ cls := "GuestViewModel", name := "isFigure", desc := "(III)I" } : Jvm.MethodName)) ∈ lw_tbl := lw_at lw_m9 129 rfl
theorem q2201 : (Jvm.Cond.instanceMethod ({ cls := "GuestViewModel", name := "isFigure", desc := "(III)I" } : Jvm.MethodName)) ∈ lw_all := lw_g (lw_at lw_m9 130 rfl) rfl
theorem q2202 : (Jvm.Cond.code ({ cls := "GuestViewModel", name := "isFigure", desc := "(III)I" } : Jvm.MethodName) prog_19_method_106_code (4 : Nat) (Option.some Jvm.ClassFile.FieldType.int)) ∈ lw_all := lw_g (lw_at lw_m9 131 rfl) rfl
theorem q2204 : (Jvm.Cond.instanceMethod ({ cls := "GuestViewModel", name := "shift", desc := "(I)I" } : Jvm.MethodName)) ∈ lw_all := lw_g (lw_at lw_m9 133 rfl) rfl
theorem q2205 : (Jvm.Cond.selects "GuestViewModel" ({ cls := "GuestViewModel", name := "shift", desc := "(I)I" } : Jvm.MethodName) ({ cls := "GuestViewModel", name := "shift", desc := "(I)I" } : Jvm.MethodName)) ∈ lw_all := lw_g (lw_at lw_m9 134 rfl) rfl
theorem q2206 : (Jvm.Cond.code ({ cls := "GuestViewModel", name := "shift", desc := "(I)I" } : Jvm.MethodName) prog_19_method_108_code (2 : Nat) (Option.some Jvm.ClassFile.FieldType.int)) ∈ lw_all := lw_g (lw_at lw_m9 135 rfl) rfl
theorem q2208 : (Jvm.Cond.instanceMethod ({ cls := "GuestViewModel", name := "cost", desc := "(I)I" } : Jvm.MethodName)) ∈ lw_all := lw_g (lw_at lw_m9 137 rfl) rfl
theorem q2209 : (Jvm.Cond.selects "GuestViewModel" ({ cls := "GuestViewModel", name := "cost", desc := "(I)I" } : Jvm.MethodName) ({ cls := "GuestViewModel", name := "cost", desc := "(I)I" } : Jvm.MethodName)) ∈ lw_all := lw_g (lw_at lw_m9 138 rfl) rfl
theorem q2210 : (Jvm.Cond.code ({ cls := "GuestViewModel", name := "cost", desc := "(I)I" } : Jvm.MethodName) prog_19_method_109_code (2 : Nat) (Option.some Jvm.ClassFile.FieldType.int)) ∈ lw_all := lw_g (lw_at lw_m9 139 rfl) rfl
theorem q2212 : (Jvm.Cond.instanceMethod ({ cls := "GuestViewModel", name := "alarm", desc := "(I)I" } : Jvm.MethodName)) ∈ lw_all := lw_g (lw_at lw_m9 141 rfl) rfl
theorem q2213 : (Jvm.Cond.selects "GuestViewModel" ({ cls := "GuestViewModel", name := "alarm", desc := "(I)I" } : Jvm.MethodName) ({ cls := "GuestViewModel", name := "alarm", desc := "(I)I" } : Jvm.MethodName)) ∈ lw_all := lw_g (lw_at lw_m9 142 rfl) rfl
theorem q2214 : (Jvm.Cond.code ({ cls := "GuestViewModel", name := "alarm", desc := "(I)I" } : Jvm.MethodName) prog_19_method_110_code (2 : Nat) (Option.some Jvm.ClassFile.FieldType.int)) ∈ lw_all := lw_g (lw_at lw_m9 143 rfl) rfl
theorem q2216 : (Jvm.Cond.instanceMethod ({ cls := "GuestViewModel", name := "hostable", desc := "()Z" } : Jvm.MethodName)) ∈ lw_all := lw_g (lw_at lw_m9 145 rfl) rfl
theorem q2217 : (Jvm.Cond.selects "GuestViewModel" ({ cls := "GuestViewModel", name := "hostable", desc := "()Z" } : Jvm.MethodName) ({ cls := "GuestViewModel", name := "hostable", desc := "()Z" } : Jvm.MethodName)) ∈ lw_all := lw_g (lw_at lw_m9 146 rfl) rfl
theorem q2218 : (Jvm.Cond.code ({ cls := "GuestViewModel", name := "hostable", desc := "()Z" } : Jvm.MethodName) prog_19_method_112_code (1 : Nat) (Option.some Jvm.ClassFile.FieldType.boolean)) ∈ lw_all := lw_g (lw_at lw_m9 147 rfl) rfl
theorem q2219 : (Jvm.Cond.methodLink "GuestViewModel" (456 : Nat) ({ cls := "GuestViewModel", name := "openOnes", desc := "()I" } : Jvm.MethodName)) ∈ lw_all := lw_g (lw_at lw_m9 148 rfl) rfl
theorem q2220 : (Jvm.Cond.privateMethod ({ cls := "GuestViewModel", name := "openOnes", desc := "()I" } : Jvm.MethodName)) ∈ lw_tbl := lw_at lw_m9 149 rfl
theorem q2221 : (Jvm.Cond.instanceMethod ({ cls := "GuestViewModel", name := "openOnes", desc := "()I" } : Jvm.MethodName)) ∈ lw_all := lw_g (lw_at lw_m9 150 rfl) rfl
theorem q2222 : (Jvm.Cond.code ({ cls := "GuestViewModel", name := "openOnes", desc := "()I" } : Jvm.MethodName) prog_19_method_111_code (3 : Nat) (Option.some Jvm.ClassFile.FieldType.int)) ∈ lw_all := lw_g (lw_at lw_m9 151 rfl) rfl
theorem q2224 : (Jvm.Cond.instanceMethod ({ cls := "GuestViewModel", name := "open", desc := "()I" } : Jvm.MethodName)) ∈ lw_all := lw_g (lw_at lw_m9 153 rfl) rfl
theorem q2225 : (Jvm.Cond.selects "GuestViewModel" ({ cls := "GuestViewModel", name := "open", desc := "()I" } : Jvm.MethodName) ({ cls := "GuestViewModel", name := "open", desc := "()I" } : Jvm.MethodName)) ∈ lw_all := lw_g (lw_at lw_m9 154 rfl) rfl
theorem q2226 : (Jvm.Cond.code ({ cls := "GuestViewModel", name := "open", desc := "()I" } : Jvm.MethodName) prog_19_method_113_code (1 : Nat) (Option.some Jvm.ClassFile.FieldType.int)) ∈ lw_all := lw_g (lw_at lw_m9 155 rfl) rfl
theorem q2227 : (Jvm.Cond.methodLink "GuestViewModel" (459 : Nat) ({ cls := "java/lang/Integer", name := "bitCount", desc := "(I)I" } : Jvm.MethodName)) ∈ lw_all := lw_g (lw_at lw_m9 156 rfl) rfl
theorem q2229 : (Jvm.Cond.instanceMethod ({ cls := "GuestViewModel", name := "least", desc := "()I" } : Jvm.MethodName)) ∈ lw_all := lw_g (lw_at lw_m9 158 rfl) rfl
theorem q2230 : (Jvm.Cond.selects "GuestViewModel" ({ cls := "GuestViewModel", name := "least", desc := "()I" } : Jvm.MethodName) ({ cls := "GuestViewModel", name := "least", desc := "()I" } : Jvm.MethodName)) ∈ lw_all := lw_g (lw_at lw_m9 159 rfl) rfl
theorem q2231 : (Jvm.Cond.code ({ cls := "GuestViewModel", name := "least", desc := "()I" } : Jvm.MethodName) prog_19_method_114_code (3 : Nat) (Option.some Jvm.ClassFile.FieldType.int)) ∈ lw_all := lw_g (lw_at lw_m9 160 rfl) rfl
theorem q2233 : (Jvm.Cond.instanceMethod ({ cls := "GuestViewModel", name := "alike", desc := "()Z" } : Jvm.MethodName)) ∈ lw_all := lw_g (lw_at lw_m9 162 rfl) rfl
theorem q2234 : (Jvm.Cond.selects "GuestViewModel" ({ cls := "GuestViewModel", name := "alike", desc := "()Z" } : Jvm.MethodName) ({ cls := "GuestViewModel", name := "alike", desc := "()Z" } : Jvm.MethodName)) ∈ lw_all := lw_g (lw_at lw_m9 163 rfl) rfl
theorem q2235 : (Jvm.Cond.code ({ cls := "GuestViewModel", name := "alike", desc := "()Z" } : Jvm.MethodName) prog_19_method_115_code (1 : Nat) (Option.some Jvm.ClassFile.FieldType.boolean)) ∈ lw_all := lw_g (lw_at lw_m9 164 rfl) rfl
theorem q2237 : (Jvm.Cond.instanceMethod ({ cls := "GuestViewModel", name := "leaks", desc := "()I" } : Jvm.MethodName)) ∈ lw_all := lw_g (lw_at lw_m9 166 rfl) rfl
theorem q2238 : (Jvm.Cond.selects "GuestViewModel" ({ cls := "GuestViewModel", name := "leaks", desc := "()I" } : Jvm.MethodName) ({ cls := "GuestViewModel", name := "leaks", desc := "()I" } : Jvm.MethodName)) ∈ lw_all := lw_g (lw_at lw_m9 167 rfl) rfl
theorem q2239 : (Jvm.Cond.code ({ cls := "GuestViewModel", name := "leaks", desc := "()I" } : Jvm.MethodName) prog_19_method_117_code (2 : Nat) (Option.some Jvm.ClassFile.FieldType.int)) ∈ lw_all := lw_g (lw_at lw_m9 168 rfl) rfl
theorem q2240 : (Jvm.Cond.methodLink "GuestViewModel" (464 : Nat) ({ cls := "GuestViewModel", name := "keepsAll", desc := "()V" } : Jvm.MethodName)) ∈ lw_all := lw_g (lw_at lw_m9 169 rfl) rfl
theorem q2241 : (Jvm.Cond.privateMethod ({ cls := "GuestViewModel", name := "keepsAll", desc := "()V" } : Jvm.MethodName)) ∈ lw_tbl := lw_at lw_m9 170 rfl
theorem q2242 : (Jvm.Cond.instanceMethod ({ cls := "GuestViewModel", name := "keepsAll", desc := "()V" } : Jvm.MethodName)) ∈ lw_all := lw_g (lw_at lw_m9 171 rfl) rfl
theorem q2243 : (Jvm.Cond.code ({ cls := "GuestViewModel", name := "keepsAll", desc := "()V" } : Jvm.MethodName) prog_19_method_10_code (2 : Nat) (Option.none : Option Jvm.ClassFile.FieldType)) ∈ lw_all := lw_g (lw_at lw_m9 172 rfl) rfl
theorem q2244 : (Jvm.Cond.methodLink "GuestViewModel" (467 : Nat) ({ cls := "GuestViewModel", name := "leaksAt", desc := "()I" } : Jvm.MethodName)) ∈ lw_all := lw_g (lw_at lw_m9 173 rfl) rfl
theorem q2245 : (Jvm.Cond.privateMethod ({ cls := "GuestViewModel", name := "leaksAt", desc := "()I" } : Jvm.MethodName)) ∈ lw_tbl := lw_at lw_m9 174 rfl
theorem q2246 : (Jvm.Cond.instanceMethod ({ cls := "GuestViewModel", name := "leaksAt", desc := "()I" } : Jvm.MethodName)) ∈ lw_all := lw_g (lw_at lw_m9 175 rfl) rfl
theorem q2247 : (Jvm.Cond.code ({ cls := "GuestViewModel", name := "leaksAt", desc := "()I" } : Jvm.MethodName) prog_19_method_116_code (3 : Nat) (Option.some Jvm.ClassFile.FieldType.int)) ∈ lw_all := lw_g (lw_at lw_m9 176 rfl) rfl
theorem q2248 : (Jvm.Cond.methodLink "GuestViewModel" (470 : Nat) ({ cls := "GuestViewModel", name := "bringsBack", desc := "()V" } : Jvm.MethodName)) ∈ lw_all := lw_g (lw_at lw_m9 177 rfl) rfl
theorem q2249 : (Jvm.Cond.privateMethod ({ cls := "GuestViewModel", name := "bringsBack", desc := "()V" } : Jvm.MethodName)) ∈ lw_tbl := lw_at lw_m9 178 rfl
theorem q2250 : (Jvm.Cond.instanceMethod ({ cls := "GuestViewModel", name := "bringsBack", desc := "()V" } : Jvm.MethodName)) ∈ lw_all := lw_g (lw_at lw_m9 179 rfl) rfl
theorem q2251 : (Jvm.Cond.code ({ cls := "GuestViewModel", name := "bringsBack", desc := "()V" } : Jvm.MethodName) prog_19_method_11_code (2 : Nat) (Option.none : Option Jvm.ClassFile.FieldType)) ∈ lw_all := lw_g (lw_at lw_m9 180 rfl) rfl
theorem q2253 : (Jvm.Cond.instanceMethod ({ cls := "GuestViewModel", name := "traps", desc := "(I)I" } : Jvm.MethodName)) ∈ lw_all := lw_g (lw_at lw_m9 182 rfl) rfl
theorem q2254 : (Jvm.Cond.selects "GuestViewModel" ({ cls := "GuestViewModel", name := "traps", desc := "(I)I" } : Jvm.MethodName) ({ cls := "GuestViewModel", name := "traps", desc := "(I)I" } : Jvm.MethodName)) ∈ lw_all := lw_g (lw_at lw_m9 183 rfl) rfl
theorem q2255 : (Jvm.Cond.code ({ cls := "GuestViewModel", name := "traps", desc := "(I)I" } : Jvm.MethodName) prog_19_method_119_code (2 : Nat) (Option.some Jvm.ClassFile.FieldType.int)) ∈ lw_all := lw_g (lw_at lw_m9 184 rfl) rfl
theorem q2256 : (Jvm.Cond.methodLink "GuestViewModel" (473 : Nat) ({ cls := "GuestViewModel", name := "depthOf", desc := "(III)I" } : Jvm.MethodName)) ∈ lw_all := lw_g (lw_at lw_m9 185 rfl) rfl
theorem q2257 : (Jvm.Cond.privateMethod ({ cls := "GuestViewModel", name := "depthOf", desc := "(III)I" } : Jvm.MethodName)) ∈ lw_tbl := lw_at lw_m9 186 rfl
theorem q2258 : (Jvm.Cond.instanceMethod ({ cls := "GuestViewModel", name := "depthOf", desc := "(III)I" } : Jvm.MethodName)) ∈ lw_all := lw_g (lw_at lw_m9 187 rfl) rfl
theorem q2259 : (Jvm.Cond.code ({ cls := "GuestViewModel", name := "depthOf", desc := "(III)I" } : Jvm.MethodName) prog_19_method_118_code (8 : Nat) (Option.some Jvm.ClassFile.FieldType.int)) ∈ lw_all := lw_g (lw_at lw_m9 188 rfl) rfl
theorem q2261 : (Jvm.Cond.instanceMethod ({ cls := "GuestViewModel", name := "depth", desc := "(II)I" } : Jvm.MethodName)) ∈ lw_all := lw_g (lw_at lw_m9 190 rfl) rfl
theorem q2262 : (Jvm.Cond.selects "GuestViewModel" ({ cls := "GuestViewModel", name := "depth", desc := "(II)I" } : Jvm.MethodName) ({ cls := "GuestViewModel", name := "depth", desc := "(II)I" } : Jvm.MethodName)) ∈ lw_all := lw_g (lw_at lw_m9 191 rfl) rfl
theorem q2263 : (Jvm.Cond.code ({ cls := "GuestViewModel", name := "depth", desc := "(II)I" } : Jvm.MethodName) prog_19_method_120_code (3 : Nat) (Option.some Jvm.ClassFile.FieldType.int)) ∈ lw_all := lw_g (lw_at lw_m9 192 rfl) rfl
theorem q2265 : (Jvm.Cond.instanceMethod ({ cls := "GuestViewModel", name := "proof", desc := "()I" } : Jvm.MethodName)) ∈ lw_all := lw_g (lw_at lw_m9 194 rfl) rfl
theorem q2266 : (Jvm.Cond.selects "GuestViewModel" ({ cls := "GuestViewModel", name := "proof", desc := "()I" } : Jvm.MethodName) ({ cls := "GuestViewModel", name := "proof", desc := "()I" } : Jvm.MethodName)) ∈ lw_all := lw_g (lw_at lw_m9 195 rfl) rfl
theorem q2267 : (Jvm.Cond.code ({ cls := "GuestViewModel", name := "proof", desc := "()I" } : Jvm.MethodName) prog_19_method_122_code (6 : Nat) (Option.some Jvm.ClassFile.FieldType.int)) ∈ lw_all := lw_g (lw_at lw_m9 196 rfl) rfl
theorem q2268 : (Jvm.Cond.methodLink "GuestViewModel" (476 : Nat) ({ cls := "GuestViewModel", name := "isProof", desc := "(II)Z" } : Jvm.MethodName)) ∈ lw_all := lw_g (lw_at lw_m9 197 rfl) rfl
theorem q2269 : (Jvm.Cond.privateMethod ({ cls := "GuestViewModel", name := "isProof", desc := "(II)Z" } : Jvm.MethodName)) ∈ lw_tbl := lw_at lw_m9 198 rfl
theorem q2270 : (Jvm.Cond.instanceMethod ({ cls := "GuestViewModel", name := "isProof", desc := "(II)Z" } : Jvm.MethodName)) ∈ lw_all := lw_g (lw_at lw_m9 199 rfl) rfl
theorem q2271 : (Jvm.Cond.code ({ cls := "GuestViewModel", name := "isProof", desc := "(II)Z" } : Jvm.MethodName) prog_19_method_121_code (5 : Nat) (Option.some Jvm.ClassFile.FieldType.boolean)) ∈ lw_all := lw_g (lw_at lw_m9 200 rfl) rfl
theorem q2273 : (Jvm.Cond.instanceMethod ({ cls := "GuestViewModel", name := "clash", desc := "(II)Z" } : Jvm.MethodName)) ∈ lw_all := lw_g (lw_at lw_m9 202 rfl) rfl
theorem q2274 : (Jvm.Cond.selects "GuestViewModel" ({ cls := "GuestViewModel", name := "clash", desc := "(II)Z" } : Jvm.MethodName) ({ cls := "GuestViewModel", name := "clash", desc := "(II)Z" } : Jvm.MethodName)) ∈ lw_all := lw_g (lw_at lw_m9 203 rfl) rfl
theorem q2275 : (Jvm.Cond.code ({ cls := "GuestViewModel", name := "clash", desc := "(II)Z" } : Jvm.MethodName) prog_19_method_125_code (3 : Nat) (Option.some Jvm.ClassFile.FieldType.boolean)) ∈ lw_all := lw_g (lw_at lw_m9 204 rfl) rfl
theorem q2276 : (Jvm.Cond.methodLink "GuestViewModel" (482 : Nat) ({ cls := "GuestViewModel", name := "doClash", desc := "(II)Z" } : Jvm.MethodName)) ∈ lw_all := lw_g (lw_at lw_m9 205 rfl) rfl
theorem q2277 : (Jvm.Cond.privateMethod ({ cls := "GuestViewModel", name := "doClash", desc := "(II)Z" } : Jvm.MethodName)) ∈ lw_tbl := lw_at lw_m9 206 rfl
theorem q2278 : (Jvm.Cond.instanceMethod ({ cls := "GuestViewModel", name := "doClash", desc := "(II)Z" } : Jvm.MethodName)) ∈ lw_all := lw_g (lw_at lw_m9 207 rfl) rfl
theorem q2279 : (Jvm.Cond.code ({ cls := "GuestViewModel", name := "doClash", desc := "(II)Z" } : Jvm.MethodName) prog_19_method_124_code (7 : Nat) (Option.some Jvm.ClassFile.FieldType.boolean)) ∈ lw_all := lw_g (lw_at lw_m9 208 rfl) rfl
theorem q2280 : (Jvm.Cond.methodLink "GuestViewModel" (479 : Nat) ({ cls := "GuestViewModel", name := "touches", desc := "(III)Z" } : Jvm.MethodName)) ∈ lw_all := lw_g (lw_at lw_m9 209 rfl) rfl
theorem q2281 : (Jvm.Cond.privateMethod ({ cls := "GuestViewModel", name := "touches", desc := "(III)Z" } : Jvm.MethodName)) ∈ lw_tbl := lw_at lw_m9 210 rfl
theorem q2282 : (Jvm.Cond.instanceMethod ({ cls := "GuestViewModel", name := "touches", desc := "(III)Z" } : Jvm.MethodName)) ∈ lw_all := lw_g (lw_at lw_m9 211 rfl) rfl
theorem q2283 : (Jvm.Cond.code ({ cls := "GuestViewModel", name := "touches", desc := "(III)Z" } : Jvm.MethodName) prog_19_method_123_code (6 : Nat) (Option.some Jvm.ClassFile.FieldType.boolean)) ∈ lw_all := lw_g (lw_at lw_m9 212 rfl) rfl
theorem q2285 : (Jvm.Cond.instanceMethod ({ cls := "GuestViewModel", name := "beside", desc := "()I" } : Jvm.MethodName)) ∈ lw_all := lw_g (lw_at lw_m9 214 rfl) rfl
theorem q2286 : (Jvm.Cond.selects "GuestViewModel" ({ cls := "GuestViewModel", name := "beside", desc := "()I" } : Jvm.MethodName) ({ cls := "GuestViewModel", name := "beside", desc := "()I" } : Jvm.MethodName)) ∈ lw_all := lw_g (lw_at lw_m9 215 rfl) rfl
theorem q2287 : (Jvm.Cond.code ({ cls := "GuestViewModel", name := "beside", desc := "()I" } : Jvm.MethodName) prog_19_method_127_code (3 : Nat) (Option.some Jvm.ClassFile.FieldType.int)) ∈ lw_all := lw_g (lw_at lw_m9 216 rfl) rfl
theorem q2288 : (Jvm.Cond.methodLink "GuestViewModel" (488 : Nat) ({ cls := "GuestViewModel", name := "noneClash", desc := "(I)Z" } : Jvm.MethodName)) ∈ lw_all := lw_g (lw_at lw_m9 217 rfl) rfl
theorem q2289 : (Jvm.Cond.privateMethod ({ cls := "GuestViewModel", name := "noneClash", desc := "(I)Z" } : Jvm.MethodName)) ∈ lw_tbl := lw_at lw_m9 218 rfl
theorem q2290 : (Jvm.Cond.instanceMethod ({ cls := "GuestViewModel", name := "noneClash", desc := "(I)Z" } : Jvm.MethodName)) ∈ lw_all := lw_g (lw_at lw_m9 219 rfl) rfl
theorem q2291 : (Jvm.Cond.code ({ cls := "GuestViewModel", name := "noneClash", desc := "(I)Z" } : Jvm.MethodName) prog_19_method_126_code (5 : Nat) (Option.some Jvm.ClassFile.FieldType.boolean)) ∈ lw_all := lw_g (lw_at lw_m9 220 rfl) rfl
theorem q2292 : (Jvm.Cond.methodLink "GuestViewModel" (485 : Nat) ({ cls := "GuestViewModel", name := "has", desc := "(II)Z" } : Jvm.MethodName)) ∈ lw_all := lw_g (lw_at lw_m9 221 rfl) rfl
theorem q2293 : (Jvm.Cond.static ({ cls := "GuestViewModel", name := "has", desc := "(II)Z" } : Jvm.MethodName)) ∈ lw_all := lw_g (lw_at lw_m9 222 rfl) rfl
theorem q2294 : (Jvm.Cond.code ({ cls := "GuestViewModel", name := "has", desc := "(II)Z" } : Jvm.MethodName) prog_19_method_4_code (2 : Nat) (Option.some Jvm.ClassFile.FieldType.boolean)) ∈ lw_all := lw_g (lw_at lw_m9 223 rfl) rfl
theorem q2296 : (Jvm.Cond.instanceMethod ({ cls := "GuestViewModel", name := "which", desc := "()I" } : Jvm.MethodName)) ∈ lw_all := lw_g (lw_at lw_m9 225 rfl) rfl
theorem q2297 : (Jvm.Cond.selects "GuestViewModel" ({ cls := "GuestViewModel", name := "which", desc := "()I" } : Jvm.MethodName) ({ cls := "GuestViewModel", name := "which", desc := "()I" } : Jvm.MethodName)) ∈ lw_all := lw_g (lw_at lw_m9 226 rfl) rfl
theorem q2298 : (Jvm.Cond.code ({ cls := "GuestViewModel", name := "which", desc := "()I" } : Jvm.MethodName) prog_19_method_132_code (1 : Nat) (Option.some Jvm.ClassFile.FieldType.int)) ∈ lw_all := lw_g (lw_at lw_m9 227 rfl) rfl
theorem q2299 : (Jvm.Cond.methodLink "GuestViewModel" (497 : Nat) ({ cls := "GuestViewModel", name := "areTold", desc := "()Z" } : Jvm.MethodName)) ∈ lw_all := lw_g (lw_at lw_m9 228 rfl) rfl
theorem q2300 : (Jvm.Cond.privateMethod ({ cls := "GuestViewModel", name := "areTold", desc := "()Z" } : Jvm.MethodName)) ∈ lw_tbl := lw_at lw_m9 229 rfl
theorem q2301 : (Jvm.Cond.instanceMethod ({ cls := "GuestViewModel", name := "areTold", desc := "()Z" } : Jvm.MethodName)) ∈ lw_all := lw_g (lw_at lw_m9 230 rfl) rfl
theorem q2302 : (Jvm.Cond.code ({ cls := "GuestViewModel", name := "areTold", desc := "()Z" } : Jvm.MethodName) prog_19_method_128_code (3 : Nat) (Option.some Jvm.ClassFile.FieldType.boolean)) ∈ lw_all := lw_g (lw_at lw_m9 231 rfl) rfl
theorem q2303 : (Jvm.Cond.methodLink "GuestViewModel" (500 : Nat) ({ cls := "GuestViewModel", name := "thatFit", desc := "(I)I" } : Jvm.MethodName)) ∈ lw_all := lw_g (lw_at lw_m9 232 rfl) rfl
theorem q2304 : (Jvm.Cond.privateMethod ({ cls := "GuestViewModel", name := "thatFit", desc := "(I)I" } : Jvm.MethodName)) ∈ lw_tbl := lw_at lw_m9 233 rfl
theorem q2305 : (Jvm.Cond.instanceMethod ({ cls := "GuestViewModel", name := "thatFit", desc := "(I)I" } : Jvm.MethodName)) ∈ lw_all := lw_g (lw_at lw_m9 234 rfl) rfl
theorem q2306 : (Jvm.Cond.code ({ cls := "GuestViewModel", name := "thatFit", desc := "(I)I" } : Jvm.MethodName) prog_19_method_131_code (4 : Nat) (Option.some Jvm.ClassFile.FieldType.int)) ∈ lw_all := lw_g (lw_at lw_m9 235 rfl) rfl
theorem q2307 : (Jvm.Cond.methodLink "GuestViewModel" (494 : Nat) ({ cls := "GuestViewModel", name := "wrongRows", desc := "(I)I" } : Jvm.MethodName)) ∈ lw_all := lw_g (lw_at lw_m9 236 rfl) rfl
theorem q2308 : (Jvm.Cond.privateMethod ({ cls := "GuestViewModel", name := "wrongRows", desc := "(I)I" } : Jvm.MethodName)) ∈ lw_tbl := lw_at lw_m9 237 rfl
theorem q2309 : (Jvm.Cond.instanceMethod ({ cls := "GuestViewModel", name := "wrongRows", desc := "(I)I" } : Jvm.MethodName)) ∈ lw_all := lw_g (lw_at lw_m9 238 rfl) rfl
theorem q2310 : (Jvm.Cond.code ({ cls := "GuestViewModel", name := "wrongRows", desc := "(I)I" } : Jvm.MethodName) prog_19_method_130_code (4 : Nat) (Option.some Jvm.ClassFile.FieldType.int)) ∈ lw_all := lw_g (lw_at lw_m9 239 rfl) rfl
theorem q2311 : (Jvm.Cond.methodLink "GuestViewModel" (491 : Nat) ({ cls := "GuestViewModel", name := "whatOf", desc := "(II)I" } : Jvm.MethodName)) ∈ lw_all := lw_g (lw_at lw_m10 0 rfl) rfl
theorem q2312 : (Jvm.Cond.privateMethod ({ cls := "GuestViewModel", name := "whatOf", desc := "(II)I" } : Jvm.MethodName)) ∈ lw_tbl := lw_at lw_m10 1 rfl
theorem q2313 : (Jvm.Cond.instanceMethod ({ cls := "GuestViewModel", name := "whatOf", desc := "(II)I" } : Jvm.MethodName)) ∈ lw_all := lw_g (lw_at lw_m10 2 rfl) rfl
theorem q2314 : (Jvm.Cond.code ({ cls := "GuestViewModel", name := "whatOf", desc := "(II)I" } : Jvm.MethodName) prog_19_method_129_code (3 : Nat) (Option.some Jvm.ClassFile.FieldType.int)) ∈ lw_all := lw_g (lw_at lw_m10 3 rfl) rfl
theorem q2316 : (Jvm.Cond.instanceMethod ({ cls := "GuestViewModel", name := "likely", desc := "()I" } : Jvm.MethodName)) ∈ lw_all := lw_g (lw_at lw_m10 5 rfl) rfl
theorem q2317 : (Jvm.Cond.selects "GuestViewModel" ({ cls := "GuestViewModel", name := "likely", desc := "()I" } : Jvm.MethodName) ({ cls := "GuestViewModel", name := "likely", desc := "()I" } : Jvm.MethodName)) ∈ lw_all := lw_g (lw_at lw_m10 6 rfl) rfl
theorem q2318 : (Jvm.Cond.code ({ cls := "GuestViewModel", name := "likely", desc := "()I" } : Jvm.MethodName) prog_19_method_134_code (2 : Nat) (Option.some Jvm.ClassFile.FieldType.int)) ∈ lw_all := lw_g (lw_at lw_m10 7 rfl) rfl
theorem q2319 : (Jvm.Cond.methodLink "GuestViewModel" (506 : Nat) ({ cls := "GuestViewModel", name := "firstOf", desc := "(I)I" } : Jvm.MethodName)) ∈ lw_all := lw_g (lw_at lw_m10 8 rfl) rfl
theorem q2320 : (Jvm.Cond.static ({ cls := "GuestViewModel", name := "firstOf", desc := "(I)I" } : Jvm.MethodName)) ∈ lw_all := lw_g (lw_at lw_m10 9 rfl) rfl
theorem q2321 : (Jvm.Cond.code ({ cls := "GuestViewModel", name := "firstOf", desc := "(I)I" } : Jvm.MethodName) prog_19_method_133_code (1 : Nat) (Option.some Jvm.ClassFile.FieldType.int)) ∈ lw_all := lw_g (lw_at lw_m10 10 rfl) rfl
theorem q2322 : (Jvm.Cond.methodLink "GuestViewModel" (503 : Nat) ({ cls := "java/lang/Integer", name := "numberOfTrailingZeros", desc := "(I)I" } : Jvm.MethodName)) ∈ lw_all := lw_g (lw_at lw_m10 11 rfl) rfl
theorem q2324 : (Jvm.Cond.instanceMethod ({ cls := "GuestViewModel", name := "ask", desc := "()I" } : Jvm.MethodName)) ∈ lw_all := lw_g (lw_at lw_m10 13 rfl) rfl
theorem q2325 : (Jvm.Cond.selects "GuestViewModel" ({ cls := "GuestViewModel", name := "ask", desc := "()I" } : Jvm.MethodName) ({ cls := "GuestViewModel", name := "ask", desc := "()I" } : Jvm.MethodName)) ∈ lw_all := lw_g (lw_at lw_m10 14 rfl) rfl
theorem q2326 : (Jvm.Cond.code ({ cls := "GuestViewModel", name := "ask", desc := "()I" } : Jvm.MethodName) prog_19_method_136_code (6 : Nat) (Option.some Jvm.ClassFile.FieldType.int)) ∈ lw_all := lw_g (lw_at lw_m10 15 rfl) rfl
theorem q2327 : (Jvm.Cond.constant "GuestViewModel" (512 : Nat) (1000000 : Int32)) ∈ lw_all := lw_g (lw_at lw_m10 16 rfl) rfl
theorem q2328 : (Jvm.Cond.methodLink "GuestViewModel" (513 : Nat) ({ cls := "GuestViewModel", name := "partBy", desc := "(II)I" } : Jvm.MethodName)) ∈ lw_all := lw_g (lw_at lw_m10 17 rfl) rfl
theorem q2329 : (Jvm.Cond.privateMethod ({ cls := "GuestViewModel", name := "partBy", desc := "(II)I" } : Jvm.MethodName)) ∈ lw_tbl := lw_at lw_m10 18 rfl
theorem q2330 : (Jvm.Cond.instanceMethod ({ cls := "GuestViewModel", name := "partBy", desc := "(II)I" } : Jvm.MethodName)) ∈ lw_all := lw_g (lw_at lw_m10 19 rfl) rfl
theorem q2331 : (Jvm.Cond.code ({ cls := "GuestViewModel", name := "partBy", desc := "(II)I" } : Jvm.MethodName) prog_19_method_135_code (7 : Nat) (Option.some Jvm.ClassFile.FieldType.int)) ∈ lw_all := lw_g (lw_at lw_m10 20 rfl) rfl
theorem q2332 : (Jvm.Cond.methodLink "GuestViewModel" (509 : Nat) ({ cls := "java/lang/Math", name := "max", desc := "(II)I" } : Jvm.MethodName)) ∈ lw_all := lw_g (lw_at lw_m10 21 rfl) rfl
theorem q2334 : (Jvm.Cond.instanceMethod ({ cls := "GuestViewModel", name := "lead", desc := "()I" } : Jvm.MethodName)) ∈ lw_all := lw_g (lw_at lw_m10 23 rfl) rfl
theorem q2335 : (Jvm.Cond.selects "GuestViewModel" ({ cls := "GuestViewModel", name := "lead", desc := "()I" } : Jvm.MethodName) ({ cls := "GuestViewModel", name := "lead", desc := "()I" } : Jvm.MethodName)) ∈ lw_all := lw_g (lw_at lw_m10 24 rfl) rfl
theorem q2336 : (Jvm.Cond.code ({ cls := "GuestViewModel", name := "lead", desc := "()I" } : Jvm.MethodName) prog_19_method_141_code (1 : Nat) (Option.some Jvm.ClassFile.FieldType.int)) ∈ lw_all := lw_g (lw_at lw_m10 25 rfl) rfl
theorem q2337 : (Jvm.Cond.methodLink "GuestViewModel" (525 : Nat) ({ cls := "GuestViewModel", name := "laysMore", desc := "()V" } : Jvm.MethodName)) ∈ lw_all := lw_g (lw_at lw_m10 26 rfl) rfl
theorem q2338 : (Jvm.Cond.privateMethod ({ cls := "GuestViewModel", name := "laysMore", desc := "()V" } : Jvm.MethodName)) ∈ lw_tbl := lw_at lw_m10 27 rfl
theorem q2339 : (Jvm.Cond.instanceMethod ({ cls := "GuestViewModel", name := "laysMore", desc := "()V" } : Jvm.MethodName)) ∈ lw_all := lw_g (lw_at lw_m10 28 rfl) rfl
theorem q2340 : (Jvm.Cond.code ({ cls := "GuestViewModel", name := "laysMore", desc := "()V" } : Jvm.MethodName) prog_19_method_140_code (3 : Nat) (Option.none : Option Jvm.ClassFile.FieldType)) ∈ lw_all := lw_g (lw_at lw_m10 29 rfl) rfl
theorem q2341 : (Jvm.Cond.methodLink "GuestViewModel" (516 : Nat) ({ cls := "GuestViewModel", name := "moreAt", desc := "(II)I" } : Jvm.MethodName)) ∈ lw_all := lw_g (lw_at lw_m10 30 rfl) rfl
theorem q2342 : (Jvm.Cond.static ({ cls := "GuestViewModel", name := "moreAt", desc := "(II)I" } : Jvm.MethodName)) ∈ lw_all := lw_g (lw_at lw_m10 31 rfl) rfl
theorem q2343 : (Jvm.Cond.code ({ cls := "GuestViewModel", name := "moreAt", desc := "(II)I" } : Jvm.MethodName) prog_19_method_137_code (2 : Nat) (Option.some Jvm.ClassFile.FieldType.int)) ∈ lw_all := lw_g (lw_at lw_m10 32 rfl) rfl
theorem q2344 : (Jvm.Cond.methodLink "GuestViewModel" (519 : Nat) ({ cls := "GuestViewModel", name := "leftFirst", desc := "(II)I" } : Jvm.MethodName)) ∈ lw_all := lw_g (lw_at lw_m10 33 rfl) rfl
theorem q2345 : (Jvm.Cond.privateMethod ({ cls := "GuestViewModel", name := "leftFirst", desc := "(II)I" } : Jvm.MethodName)) ∈ lw_tbl := lw_at lw_m10 34 rfl
theorem q2346 : (Jvm.Cond.instanceMethod ({ cls := "GuestViewModel", name := "leftFirst", desc := "(II)I" } : Jvm.MethodName)) ∈ lw_all := lw_g (lw_at lw_m10 35 rfl) rfl
theorem q2347 : (Jvm.Cond.code ({ cls := "GuestViewModel", name := "leftFirst", desc := "(II)I" } : Jvm.MethodName) prog_19_method_138_code (3 : Nat) (Option.some Jvm.ClassFile.FieldType.int)) ∈ lw_all := lw_g (lw_at lw_m10 36 rfl) rfl
theorem q2348 : (Jvm.Cond.methodLink "GuestViewModel" (522 : Nat) ({ cls := "GuestViewModel", name := "rightFirst", desc := "(II)I" } : Jvm.MethodName)) ∈ lw_all := lw_g (lw_at lw_m10 37 rfl) rfl
theorem q2349 : (Jvm.Cond.privateMethod ({ cls := "GuestViewModel", name := "rightFirst", desc := "(II)I" } : Jvm.MethodName)) ∈ lw_tbl := lw_at lw_m10 38 rfl
theorem q2350 : (Jvm.Cond.instanceMethod ({ cls := "GuestViewModel", name := "rightFirst", desc := "(II)I" } : Jvm.MethodName)) ∈ lw_all := lw_g (lw_at lw_m10 39 rfl) rfl
theorem q2351 : (Jvm.Cond.code ({ cls := "GuestViewModel", name := "rightFirst", desc := "(II)I" } : Jvm.MethodName) prog_19_method_139_code (3 : Nat) (Option.some Jvm.ClassFile.FieldType.int)) ∈ lw_all := lw_g (lw_at lw_m10 40 rfl) rfl
theorem q2353 : (Jvm.Cond.instanceMethod ({ cls := "GuestViewModel", name := "side", desc := "()I" } : Jvm.MethodName)) ∈ lw_all := lw_g (lw_at lw_m10 42 rfl) rfl
theorem q2354 : (Jvm.Cond.selects "GuestViewModel" ({ cls := "GuestViewModel", name := "side", desc := "()I" } : Jvm.MethodName) ({ cls := "GuestViewModel", name := "side", desc := "()I" } : Jvm.MethodName)) ∈ lw_all := lw_g (lw_at lw_m10 43 rfl) rfl
theorem q2355 : (Jvm.Cond.code ({ cls := "GuestViewModel", name := "side", desc := "()I" } : Jvm.MethodName) prog_19_method_142_code (1 : Nat) (Option.some Jvm.ClassFile.FieldType.int)) ∈ lw_all := lw_g (lw_at lw_m10 44 rfl) rfl
theorem q2357 : (Jvm.Cond.instanceMethod ({ cls := "GuestViewModel", name := "pairs", desc := "(I)I" } : Jvm.MethodName)) ∈ lw_all := lw_g (lw_at lw_m10 46 rfl) rfl
theorem q2358 : (Jvm.Cond.selects "GuestViewModel" ({ cls := "GuestViewModel", name := "pairs", desc := "(I)I" } : Jvm.MethodName) ({ cls := "GuestViewModel", name := "pairs", desc := "(I)I" } : Jvm.MethodName)) ∈ lw_all := lw_g (lw_at lw_m10 47 rfl) rfl
theorem q2359 : (Jvm.Cond.code ({ cls := "GuestViewModel", name := "pairs", desc := "(I)I" } : Jvm.MethodName) prog_19_method_145_code (7 : Nat) (Option.some Jvm.ClassFile.FieldType.int)) ∈ lw_all := lw_g (lw_at lw_m10 48 rfl) rfl
theorem q2360 : (Jvm.Cond.methodLink "GuestViewModel" (531 : Nat) ({ cls := "GuestViewModel", name := "laysPairs", desc := "()V" } : Jvm.MethodName)) ∈ lw_all := lw_g (lw_at lw_m10 49 rfl) rfl
theorem q2361 : (Jvm.Cond.privateMethod ({ cls := "GuestViewModel", name := "laysPairs", desc := "()V" } : Jvm.MethodName)) ∈ lw_tbl := lw_at lw_m10 50 rfl
theorem q2362 : (Jvm.Cond.instanceMethod ({ cls := "GuestViewModel", name := "laysPairs", desc := "()V" } : Jvm.MethodName)) ∈ lw_all := lw_g (lw_at lw_m10 51 rfl) rfl
theorem q2363 : (Jvm.Cond.code ({ cls := "GuestViewModel", name := "laysPairs", desc := "()V" } : Jvm.MethodName) prog_19_method_144_code (4 : Nat) (Option.none : Option Jvm.ClassFile.FieldType)) ∈ lw_all := lw_g (lw_at lw_m10 52 rfl) rfl
theorem q2364 : (Jvm.Cond.methodLink "GuestViewModel" (528 : Nat) ({ cls := "GuestViewModel", name := "pairedBy", desc := "(II)I" } : Jvm.MethodName)) ∈ lw_all := lw_g (lw_at lw_m10 53 rfl) rfl
theorem q2365 : (Jvm.Cond.privateMethod ({ cls := "GuestViewModel", name := "pairedBy", desc := "(II)I" } : Jvm.MethodName)) ∈ lw_tbl := lw_at lw_m10 54 rfl
theorem q2366 : (Jvm.Cond.instanceMethod ({ cls := "GuestViewModel", name := "pairedBy", desc := "(II)I" } : Jvm.MethodName)) ∈ lw_all := lw_g (lw_at lw_m10 55 rfl) rfl
theorem q2367 : (Jvm.Cond.code ({ cls := "GuestViewModel", name := "pairedBy", desc := "(II)I" } : Jvm.MethodName) prog_19_method_143_code (5 : Nat) (Option.some Jvm.ClassFile.FieldType.int)) ∈ lw_all := lw_g (lw_at lw_m10 56 rfl) rfl
theorem q2369 : (Jvm.Cond.instanceMethod ({ cls := "GuestViewModel", name := "rests", desc := "(I)I" } : Jvm.MethodName)) ∈ lw_all := lw_g (lw_at lw_m10 58 rfl) rfl
theorem q2370 : (Jvm.Cond.selects "GuestViewModel" ({ cls := "GuestViewModel", name := "rests", desc := "(I)I" } : Jvm.MethodName) ({ cls := "GuestViewModel", name := "rests", desc := "(I)I" } : Jvm.MethodName)) ∈ lw_all := lw_g (lw_at lw_m10 59 rfl) rfl
theorem q2371 : (Jvm.Cond.code ({ cls := "GuestViewModel", name := "rests", desc := "(I)I" } : Jvm.MethodName) prog_19_method_148_code (5 : Nat) (Option.some Jvm.ClassFile.FieldType.int)) ∈ lw_all := lw_g (lw_at lw_m10 60 rfl) rfl
theorem q2372 : (Jvm.Cond.methodLink "GuestViewModel" (534 : Nat) ({ cls := "GuestViewModel", name := "guestHas", desc := "(III)I" } : Jvm.MethodName)) ∈ lw_all := lw_g (lw_at lw_m10 61 rfl) rfl
theorem q2373 : (Jvm.Cond.privateMethod ({ cls := "GuestViewModel", name := "guestHas", desc := "(III)I" } : Jvm.MethodName)) ∈ lw_tbl := lw_at lw_m10 62 rfl
theorem q2374 : (Jvm.Cond.instanceMethod ({ cls := "GuestViewModel", name := "guestHas", desc := "(III)I" } : Jvm.MethodName)) ∈ lw_all := lw_g (lw_at lw_m10 63 rfl) rfl
theorem q2375 : (Jvm.Cond.code ({ cls := "GuestViewModel", name := "guestHas", desc := "(III)I" } : Jvm.MethodName) prog_19_method_146_code (4 : Nat) (Option.some Jvm.ClassFile.FieldType.int)) ∈ lw_all := lw_g (lw_at lw_m10 64 rfl) rfl
theorem q2376 : (Jvm.Cond.methodLink "GuestViewModel" (537 : Nat) ({ cls := "GuestViewModel", name := "hostHas", desc := "(III)I" } : Jvm.MethodName)) ∈ lw_all := lw_g (lw_at lw_m10 65 rfl) rfl
theorem q2377 : (Jvm.Cond.privateMethod ({ cls := "GuestViewModel", name := "hostHas", desc := "(III)I" } : Jvm.MethodName)) ∈ lw_tbl := lw_at lw_m10 66 rfl
theorem q2378 : (Jvm.Cond.instanceMethod ({ cls := "GuestViewModel", name := "hostHas", desc := "(III)I" } : Jvm.MethodName)) ∈ lw_all := lw_g (lw_at lw_m10 67 rfl) rfl
theorem q2379 : (Jvm.Cond.code ({ cls := "GuestViewModel", name := "hostHas", desc := "(III)I" } : Jvm.MethodName) prog_19_method_147_code (4 : Nat) (Option.some Jvm.ClassFile.FieldType.int)) ∈ lw_all := lw_g (lw_at lw_m10 68 rfl) rfl
theorem q2381 : (Jvm.Cond.instanceMethod ({ cls := "GuestViewModel", name := "odds", desc := "(II)I" } : Jvm.MethodName)) ∈ lw_all := lw_g (lw_at lw_m10 70 rfl) rfl
theorem q2382 : (Jvm.Cond.selects "GuestViewModel" ({ cls := "GuestViewModel", name := "odds", desc := "(II)I" } : Jvm.MethodName) ({ cls := "GuestViewModel", name := "odds", desc := "(II)I" } : Jvm.MethodName)) ∈ lw_all := lw_g (lw_at lw_m10 71 rfl) rfl
theorem q2383 : (Jvm.Cond.code ({ cls := "GuestViewModel", name := "odds", desc := "(II)I" } : Jvm.MethodName) prog_19_method_149_code (8 : Nat) (Option.some Jvm.ClassFile.FieldType.int)) ∈ lw_all := lw_g (lw_at lw_m10 72 rfl) rfl
theorem q2384 : (Jvm.Cond.constantLong "GuestViewModel" (540 : Nat) (100 : Int64)) ∈ lw_all := lw_g (lw_at lw_m10 73 rfl) rfl
theorem q2385 : (Jvm.Cond.constantLong "GuestViewModel" (542 : Nat) (10000 : Int64)) ∈ lw_all := lw_g (lw_at lw_m10 74 rfl) rfl
theorem q2387 : (Jvm.Cond.instanceMethod ({ cls := "GuestViewModel", name := "most", desc := "(I)I" } : Jvm.MethodName)) ∈ lw_all := lw_g (lw_at lw_m10 76 rfl) rfl
theorem q2388 : (Jvm.Cond.selects "GuestViewModel" ({ cls := "GuestViewModel", name := "most", desc := "(I)I" } : Jvm.MethodName) ({ cls := "GuestViewModel", name := "most", desc := "(I)I" } : Jvm.MethodName)) ∈ lw_all := lw_g (lw_at lw_m10 77 rfl) rfl
theorem q2389 : (Jvm.Cond.code ({ cls := "GuestViewModel", name := "most", desc := "(I)I" } : Jvm.MethodName) prog_19_method_151_code (4 : Nat) (Option.some Jvm.ClassFile.FieldType.int)) ∈ lw_all := lw_g (lw_at lw_m10 78 rfl) rfl
theorem q2390 : (Jvm.Cond.methodLink "GuestViewModel" (544 : Nat) ({ cls := "GuestViewModel", name := "amountOf", desc := "(II)I" } : Jvm.MethodName)) ∈ lw_all := lw_g (lw_at lw_m10 79 rfl) rfl
theorem q2391 : (Jvm.Cond.privateMethod ({ cls := "GuestViewModel", name := "amountOf", desc := "(II)I" } : Jvm.MethodName)) ∈ lw_tbl := lw_at lw_m10 80 rfl
theorem q2392 : (Jvm.Cond.instanceMethod ({ cls := "GuestViewModel", name := "amountOf", desc := "(II)I" } : Jvm.MethodName)) ∈ lw_all := lw_g (lw_at lw_m10 81 rfl) rfl
theorem q2393 : (Jvm.Cond.code ({ cls := "GuestViewModel", name := "amountOf", desc := "(II)I" } : Jvm.MethodName) prog_19_method_150_code (3 : Nat) (Option.some Jvm.ClassFile.FieldType.int)) ∈ lw_all := lw_g (lw_at lw_m10 82 rfl) rfl
theorem q2395 : (Jvm.Cond.instanceMethod ({ cls := "GuestViewModel", name := "twins", desc := "()I" } : Jvm.MethodName)) ∈ lw_all := lw_g (lw_at lw_m10 84 rfl) rfl
theorem q2396 : (Jvm.Cond.selects "GuestViewModel" ({ cls := "GuestViewModel", name := "twins", desc := "()I" } : Jvm.MethodName) ({ cls := "GuestViewModel", name := "twins", desc := "()I" } : Jvm.MethodName)) ∈ lw_all := lw_g (lw_at lw_m10 85 rfl) rfl
theorem q2397 : (Jvm.Cond.code ({ cls := "GuestViewModel", name := "twins", desc := "()I" } : Jvm.MethodName) prog_19_method_153_code (4 : Nat) (Option.some Jvm.ClassFile.FieldType.int)) ∈ lw_all := lw_g (lw_at lw_m10 86 rfl) rfl
theorem q2398 : (Jvm.Cond.methodLink "GuestViewModel" (547 : Nat) ({ cls := "GuestViewModel", name := "areTwins", desc := "(II)Z" } : Jvm.MethodName)) ∈ lw_all := lw_g (lw_at lw_m10 87 rfl) rfl
theorem q2399 : (Jvm.Cond.privateMethod ({ cls := "GuestViewModel", name := "areTwins", desc := "(II)Z" } : Jvm.MethodName)) ∈ lw_tbl := lw_at lw_m10 88 rfl
theorem q2400 : (Jvm.Cond.instanceMethod ({ cls := "GuestViewModel", name := "areTwins", desc := "(II)Z" } : Jvm.MethodName)) ∈ lw_all := lw_g (lw_at lw_m10 89 rfl) rfl
theorem q2401 : (Jvm.Cond.code ({ cls := "GuestViewModel", name := "areTwins", desc := "(II)Z" } : Jvm.MethodName) prog_19_method_152_code (5 : Nat) (Option.some Jvm.ClassFile.FieldType.boolean)) ∈ lw_all := lw_g (lw_at lw_m10 90 rfl) rfl
theorem q2403 : (Jvm.Cond.instanceMethod ({ cls := "GuestViewModel", name := "ahead", desc := "(IZ)I" } : Jvm.MethodName)) ∈ lw_all := lw_g (lw_at lw_m10 92 rfl) rfl
theorem q2404 : (Jvm.Cond.selects "GuestViewModel" ({ cls := "GuestViewModel", name := "ahead", desc := "(IZ)I" } : Jvm.MethodName) ({ cls := "GuestViewModel", name := "ahead", desc := "(IZ)I" } : Jvm.MethodName)) ∈ lw_all := lw_g (lw_at lw_m10 93 rfl) rfl
theorem q2405 : (Jvm.Cond.code ({ cls := "GuestViewModel", name := "ahead", desc := "(IZ)I" } : Jvm.MethodName) prog_19_method_155_code (4 : Nat) (Option.some Jvm.ClassFile.FieldType.int)) ∈ lw_all := lw_g (lw_at lw_m10 94 rfl) rfl
theorem q2406 : (Jvm.Cond.methodLink "GuestViewModel" (550 : Nat) ({ cls := "GuestViewModel", name := "noTicks", desc := "(I)Z" } : Jvm.MethodName)) ∈ lw_all := lw_g (lw_at lw_m10 95 rfl) rfl
theorem q2407 : (Jvm.Cond.static ({ cls := "GuestViewModel", name := "noTicks", desc := "(I)Z" } : Jvm.MethodName)) ∈ lw_all := lw_g (lw_at lw_m10 96 rfl) rfl
theorem q2408 : (Jvm.Cond.code ({ cls := "GuestViewModel", name := "noTicks", desc := "(I)Z" } : Jvm.MethodName) prog_19_method_154_code (1 : Nat) (Option.some Jvm.ClassFile.FieldType.boolean)) ∈ lw_all := lw_g (lw_at lw_m10 97 rfl) rfl
theorem q2410 : (Jvm.Cond.instanceMethod ({ cls := "GuestViewModel", name := "trial", desc := "(IZ)I" } : Jvm.MethodName)) ∈ lw_all := lw_g (lw_at lw_m10 99 rfl) rfl
theorem q2411 : (Jvm.Cond.selects "GuestViewModel" ({ cls := "GuestViewModel", name := "trial", desc := "(IZ)I" } : Jvm.MethodName) ({ cls := "GuestViewModel", name := "trial", desc := "(IZ)I" } : Jvm.MethodName)) ∈ lw_all := lw_g (lw_at lw_m10 100 rfl) rfl
theorem q2412 : (Jvm.Cond.code ({ cls := "GuestViewModel", name := "trial", desc := "(IZ)I" } : Jvm.MethodName) prog_19_method_156_code (4 : Nat) (Option.some Jvm.ClassFile.FieldType.int)) ∈ lw_all := lw_g (lw_at lw_m10 101 rfl) rfl
theorem q2414 : (Jvm.Cond.instanceMethod ({ cls := "GuestViewModel", name := "span", desc := "(IZ)I" } : Jvm.MethodName)) ∈ lw_all := lw_g (lw_at lw_m10 103 rfl) rfl
theorem q2415 : (Jvm.Cond.selects "GuestViewModel" ({ cls := "GuestViewModel", name := "span", desc := "(IZ)I" } : Jvm.MethodName) ({ cls := "GuestViewModel", name := "span", desc := "(IZ)I" } : Jvm.MethodName)) ∈ lw_all := lw_g (lw_at lw_m10 104 rfl) rfl
theorem q2416 : (Jvm.Cond.code ({ cls := "GuestViewModel", name := "span", desc := "(IZ)I" } : Jvm.MethodName) prog_19_method_157_code (6 : Nat) (Option.some Jvm.ClassFile.FieldType.int)) ∈ lw_all := lw_g (lw_at lw_m10 105 rfl) rfl
theorem q2418 : (Jvm.Cond.instanceMethod ({ cls := "GuestViewModel", name := "led", desc := "(IZ)I" } : Jvm.MethodName)) ∈ lw_all := lw_g (lw_at lw_m10 107 rfl) rfl
theorem q2419 : (Jvm.Cond.selects "GuestViewModel" ({ cls := "GuestViewModel", name := "led", desc := "(IZ)I" } : Jvm.MethodName) ({ cls := "GuestViewModel", name := "led", desc := "(IZ)I" } : Jvm.MethodName)) ∈ lw_all := lw_g (lw_at lw_m10 108 rfl) rfl
theorem q2420 : (Jvm.Cond.code ({ cls := "GuestViewModel", name := "led", desc := "(IZ)I" } : Jvm.MethodName) prog_19_method_159_code (6 : Nat) (Option.some Jvm.ClassFile.FieldType.int)) ∈ lw_all := lw_g (lw_at lw_m10 109 rfl) rfl
theorem q2421 : (Jvm.Cond.methodLink "GuestViewModel" (553 : Nat) ({ cls := "GuestViewModel", name := "ofLog", desc := "(II)I" } : Jvm.MethodName)) ∈ lw_all := lw_g (lw_at lw_m10 110 rfl) rfl
theorem q2422 : (Jvm.Cond.privateMethod ({ cls := "GuestViewModel", name := "ofLog", desc := "(II)I" } : Jvm.MethodName)) ∈ lw_tbl := lw_at lw_m10 111 rfl
theorem q2423 : (Jvm.Cond.instanceMethod ({ cls := "GuestViewModel", name := "ofLog", desc := "(II)I" } : Jvm.MethodName)) ∈ lw_all := lw_g (lw_at lw_m10 112 rfl) rfl
theorem q2424 : (Jvm.Cond.code ({ cls := "GuestViewModel", name := "ofLog", desc := "(II)I" } : Jvm.MethodName) prog_19_method_158_code (3 : Nat) (Option.some Jvm.ClassFile.FieldType.int)) ∈ lw_all := lw_g (lw_at lw_m10 113 rfl) rfl
theorem q2426 : (Jvm.Cond.instanceMethod ({ cls := "GuestViewModel", name := "log", desc := "(II)I" } : Jvm.MethodName)) ∈ lw_all := lw_g (lw_at lw_m10 115 rfl) rfl
theorem q2427 : (Jvm.Cond.selects "GuestViewModel" ({ cls := "GuestViewModel", name := "log", desc := "(II)I" } : Jvm.MethodName) ({ cls := "GuestViewModel", name := "log", desc := "(II)I" } : Jvm.MethodName)) ∈ lw_all := lw_g (lw_at lw_m10 116 rfl) rfl
theorem q2428 : (Jvm.Cond.code ({ cls := "GuestViewModel", name := "log", desc := "(II)I" } : Jvm.MethodName) prog_19_method_160_code (3 : Nat) (Option.some Jvm.ClassFile.FieldType.int)) ∈ lw_all := lw_g (lw_at lw_m10 117 rfl) rfl
theorem q2430 : (Jvm.Cond.instanceMethod ({ cls := "GuestViewModel", name := "seed", desc := "(I)I" } : Jvm.MethodName)) ∈ lw_all := lw_g (lw_at lw_m10 119 rfl) rfl
theorem q2431 : (Jvm.Cond.selects "GuestViewModel" ({ cls := "GuestViewModel", name := "seed", desc := "(I)I" } : Jvm.MethodName) ({ cls := "GuestViewModel", name := "seed", desc := "(I)I" } : Jvm.MethodName)) ∈ lw_all := lw_g (lw_at lw_m10 120 rfl) rfl
theorem q2432 : (Jvm.Cond.code ({ cls := "GuestViewModel", name := "seed", desc := "(I)I" } : Jvm.MethodName) prog_19_method_161_code (3 : Nat) (Option.some Jvm.ClassFile.FieldType.int)) ∈ lw_all := lw_g (lw_at lw_m10 121 rfl) rfl
theorem q2434 : (Jvm.Cond.instanceMethod ({ cls := "GuestViewModel", name := "count", desc := "(I)I" } : Jvm.MethodName)) ∈ lw_all := lw_g (lw_at lw_m10 123 rfl) rfl
theorem q2435 : (Jvm.Cond.selects "GuestViewModel" ({ cls := "GuestViewModel", name := "count", desc := "(I)I" } : Jvm.MethodName) ({ cls := "GuestViewModel", name := "count", desc := "(I)I" } : Jvm.MethodName)) ∈ lw_all := lw_g (lw_at lw_m10 124 rfl) rfl
theorem q2436 : (Jvm.Cond.code ({ cls := "GuestViewModel", name := "count", desc := "(I)I" } : Jvm.MethodName) prog_19_method_162_code (2 : Nat) (Option.some Jvm.ClassFile.FieldType.int)) ∈ lw_all := lw_g (lw_at lw_m10 125 rfl) rfl
theorem q2446 : (Jvm.Cond.castable "GuestViewModel" "java/lang/Object") ∈ lw_tbl := lw_at lw_m10 135 rfl
theorem in_X8 : ∀ w ∈ wsX80, w ∈ lw_all := lw_in wsX80 [1701, 1703, 1705, 1707, 1709, 1711, 1713, 1715, 1717, 1719, 1721, 1723, 1725, 1727, 1729, 1731, 1733, 1735, 1737, 1739, 1741, 1743, 1745, 1747, 1749, 1751, 1753, 1755, 1757, 1759, 1761, 1763] (by decide +kernel) (by decide +kernel)
