/-! GuestView -/
set_option maxRecDepth 100000
def RX1 : String := "GuestView"
def TX1 : u_T := fun k => match k with
  | 0 => ("GuestView", "reader", "LGuestView$Reader;", true)
  | 1 => ("GuestView", "now", "LGuestView$State;", true)
  | 2 => ("GuestView", "image", "LGuestView$State;", true)
  | 3 => ("GuestView", "before", "LGuestView$State;", true)
  | 4 => ("GuestView", "acts", "[LGuestView$State;", true)
  | 5 => ("GuestView", "one", "LGuestView$Machine;", true)
  | 6 => ("GuestView", "other", "LGuestView$Machine;", true)
  | 7 => ("GuestView", "bareTried", "LGuestView$Guest;", true)
  | 8 => ("GuestView", "hostedTried", "LGuestView$Guest;", true)
  | 9 => ("GuestView", "wrongs", "[I", true)
  | 10 => ("GuestView", "best", "[I", true)
  | 11 => ("GuestView", "program", "[I", true)
  | 12 => ("GuestView", "leads", "[I", true)
  | 13 => ("GuestView", "wrongAt", "I", false)
  | 14 => ("GuestView", "actMany", "I", false)
  | 15 => ("GuestView", "actAt", "I", false)
  | _ => ("GuestView", "kept", "Z", false)
def tyX1 : Nat → FieldType := fun k => match k with
  | 0 => .object "GuestView$Reader"
  | 1 => .object "GuestView$State"
  | 2 => .object "GuestView$State"
  | 3 => .object "GuestView$State"
  | 4 => .array (.object "GuestView$State")
  | 5 => .object "GuestView$Machine"
  | 6 => .object "GuestView$Machine"
  | 7 => .object "GuestView$Guest"
  | 8 => .object "GuestView$Guest"
  | 9 => .array .int
  | 10 => .array .int
  | 11 => .array .int
  | 12 => .array .int
  | 13 => .int
  | 14 => .int
  | 15 => .int
  | _ => .boolean
abbrev wsX10 : List Cond := u_ws RX1 TX1 17
set_option maxRecDepth 100000 in
theorem nmX1 : ∀ a, a < 17 → ∀ b, b < 17 → a ≠ b → (TX1 a).2.1 ≠ (TX1 b).2.1 := by decide +kernel
set_option maxRecDepth 100000 in
theorem tyX1_ok : ∀ k, k < 17 → parseFieldDescriptor (TX1 k).2.2.1 = some (tyX1 k) := by decide +kernel
abbrev cX1_init : ByteArray := prog_1_method_2_code
def yX1_init : MethodName := ⟨RX1, "<init>", "()V"⟩
def dkwX1_init_1 : List UInt8 := [7, 3, 79, 89, 8, 3, 79, 89, 16, 6, 3, 79, 89, 16, 7, 3, 79, 183, 0, 3, 177]
abbrev dktX1_init_1 : List UInt8 := dkwX1_init_1 ++ []
def dkwX1_init_0 : List UInt8 := [42, 16, 12, 16, 8, 188, 10, 89, 3, 3, 79, 89, 4, 3, 79, 89, 5, 3, 79, 89, 6, 3, 79, 89]
abbrev dktX1_init_0 : List UInt8 := dkwX1_init_0 ++ dktX1_init_1
theorem dksX1_init_0 : cX1_init.data.toList.drop 0 = dktX1_init_0 := by decide +kernel
theorem dksX1_init_1 : cX1_init.data.toList.drop 24 = dktX1_init_1 := dk_seg dksX1_init_0 24 rfl rfl
theorem dX1_init_0 : decode cX1_init 0 = .ok (.aload_n 0, 1) := dk_42 (dk_at dksX1_init_0 0 rfl rfl)
theorem dX1_init_1 : decode cX1_init 1 = .ok (.bipush 12, 2) := dk_16 12 (dk_at dksX1_init_0 1 rfl rfl)
theorem dX1_init_3 : decode cX1_init 3 = .ok (.bipush 8, 2) := dk_16 8 (dk_at dksX1_init_0 3 rfl rfl)
theorem dX1_init_5 : decode cX1_init 5 = .ok (.newarray .int, 2) := dk_188_10 (dk_at dksX1_init_0 5 rfl rfl)
theorem dX1_init_7 : decode cX1_init 7 = .ok (.dup, 1) := dk_89 (dk_at dksX1_init_0 7 rfl rfl)
theorem dX1_init_8 : decode cX1_init 8 = .ok (.iconst 0, 1) := dk_3 (dk_at dksX1_init_0 8 rfl rfl)
theorem dX1_init_9 : decode cX1_init 9 = .ok (.iconst 0, 1) := dk_3 (dk_at dksX1_init_0 9 rfl rfl)
theorem dX1_init_10 : decode cX1_init 10 = .ok (.iastore, 1) := dk_79 (dk_at dksX1_init_0 10 rfl rfl)
theorem dX1_init_11 : decode cX1_init 11 = .ok (.dup, 1) := dk_89 (dk_at dksX1_init_0 11 rfl rfl)
theorem dX1_init_12 : decode cX1_init 12 = .ok (.iconst 1, 1) := dk_4 (dk_at dksX1_init_0 12 rfl rfl)
theorem dX1_init_13 : decode cX1_init 13 = .ok (.iconst 0, 1) := dk_3 (dk_at dksX1_init_0 13 rfl rfl)
theorem dX1_init_14 : decode cX1_init 14 = .ok (.iastore, 1) := dk_79 (dk_at dksX1_init_0 14 rfl rfl)
theorem dX1_init_15 : decode cX1_init 15 = .ok (.dup, 1) := dk_89 (dk_at dksX1_init_0 15 rfl rfl)
theorem dX1_init_16 : decode cX1_init 16 = .ok (.iconst 2, 1) := dk_5 (dk_at dksX1_init_0 16 rfl rfl)
theorem dX1_init_17 : decode cX1_init 17 = .ok (.iconst 0, 1) := dk_3 (dk_at dksX1_init_0 17 rfl rfl)
theorem dX1_init_18 : decode cX1_init 18 = .ok (.iastore, 1) := dk_79 (dk_at dksX1_init_0 18 rfl rfl)
theorem dX1_init_19 : decode cX1_init 19 = .ok (.dup, 1) := dk_89 (dk_at dksX1_init_0 19 rfl rfl)
theorem dX1_init_20 : decode cX1_init 20 = .ok (.iconst 3, 1) := dk_6 (dk_at dksX1_init_0 20 rfl rfl)
theorem dX1_init_21 : decode cX1_init 21 = .ok (.iconst 0, 1) := dk_3 (dk_at dksX1_init_0 21 rfl rfl)
theorem dX1_init_22 : decode cX1_init 22 = .ok (.iastore, 1) := dk_79 (dk_at dksX1_init_0 22 rfl rfl)
theorem dX1_init_23 : decode cX1_init 23 = .ok (.dup, 1) := dk_89 (dk_at dksX1_init_0 23 rfl rfl)
theorem dX1_init_24 : decode cX1_init 24 = .ok (.iconst 4, 1) := dk_7 (dk_at dksX1_init_1 0 rfl rfl)
theorem dX1_init_25 : decode cX1_init 25 = .ok (.iconst 0, 1) := dk_3 (dk_at dksX1_init_1 1 rfl rfl)
theorem dX1_init_26 : decode cX1_init 26 = .ok (.iastore, 1) := dk_79 (dk_at dksX1_init_1 2 rfl rfl)
theorem dX1_init_27 : decode cX1_init 27 = .ok (.dup, 1) := dk_89 (dk_at dksX1_init_1 3 rfl rfl)
theorem dX1_init_28 : decode cX1_init 28 = .ok (.iconst 5, 1) := dk_8 (dk_at dksX1_init_1 4 rfl rfl)
theorem dX1_init_29 : decode cX1_init 29 = .ok (.iconst 0, 1) := dk_3 (dk_at dksX1_init_1 5 rfl rfl)
theorem dX1_init_30 : decode cX1_init 30 = .ok (.iastore, 1) := dk_79 (dk_at dksX1_init_1 6 rfl rfl)
theorem dX1_init_31 : decode cX1_init 31 = .ok (.dup, 1) := dk_89 (dk_at dksX1_init_1 7 rfl rfl)
theorem dX1_init_32 : decode cX1_init 32 = .ok (.bipush 6, 2) := dk_16 6 (dk_at dksX1_init_1 8 rfl rfl)
theorem dX1_init_34 : decode cX1_init 34 = .ok (.iconst 0, 1) := dk_3 (dk_at dksX1_init_1 10 rfl rfl)
theorem dX1_init_35 : decode cX1_init 35 = .ok (.iastore, 1) := dk_79 (dk_at dksX1_init_1 11 rfl rfl)
theorem dX1_init_36 : decode cX1_init 36 = .ok (.dup, 1) := dk_89 (dk_at dksX1_init_1 12 rfl rfl)
theorem dX1_init_37 : decode cX1_init 37 = .ok (.bipush 7, 2) := dk_16 7 (dk_at dksX1_init_1 13 rfl rfl)
theorem dX1_init_39 : decode cX1_init 39 = .ok (.iconst 0, 1) := dk_3 (dk_at dksX1_init_1 15 rfl rfl)
theorem dX1_init_40 : decode cX1_init 40 = .ok (.iastore, 1) := dk_79 (dk_at dksX1_init_1 16 rfl rfl)
theorem dX1_init_41 : decode cX1_init 41 = .ok (.invokespecial 3, 3) := dk_183 0 3 (dk_at dksX1_init_1 17 rfl rfl)
theorem dX1_init_44 : decode cX1_init 44 = .ok (.return_, 1) := dk_177 (dk_at dksX1_init_1 20 rfl rfl)
abbrev cX1_init_2 : ByteArray := prog_1_method_3_code
def yX1_init_2 : MethodName := ⟨RX1, "<init>", "(I[I)V"⟩
def dkwX1_init_2_9 : List UInt8 := [180, 0, 79, 182, 0, 82, 177]
abbrev dktX1_init_2_9 : List UInt8 := dkwX1_init_2_9 ++ []
def dkwX1_init_2_8 : List UInt8 := [46, 79, 132, 3, 1, 167, 255, 235, 42, 180, 0, 22, 42, 180, 0, 22, 180, 0, 76, 42, 180, 0, 22]
abbrev dktX1_init_2_8 : List UInt8 := dkwX1_init_2_8 ++ dktX1_init_2_9
def dkwX1_init_2_7 : List UInt8 := [132, 3, 1, 167, 255, 235, 3, 62, 29, 44, 190, 162, 0, 21, 42, 180, 0, 22, 180, 0, 73, 29, 44, 29]
abbrev dktX1_init_2_7 : List UInt8 := dkwX1_init_2_7 ++ dktX1_init_2_8
def dkwX1_init_2_6 : List UInt8 := [181, 0, 69, 3, 62, 29, 27, 162, 0, 22, 42, 180, 0, 69, 29, 187, 0, 19, 89, 183, 0, 21, 83]
abbrev dktX1_init_2_6 : List UInt8 := dkwX1_init_2_6 ++ dktX1_init_2_7
def dkwX1_init_2_5 : List UInt8 := [188, 10, 181, 0, 59, 42, 16, 81, 188, 10, 181, 0, 62, 42, 2, 181, 0, 65, 42, 27, 189, 0, 19]
abbrev dktX1_init_2_5 : List UInt8 := dkwX1_init_2_5 ++ dktX1_init_2_6
def dkwX1_init_2_4 : List UInt8 := [181, 0, 49, 42, 16, 8, 188, 10, 181, 0, 52, 42, 17, 1, 0, 188, 10, 181, 0, 56, 42, 16, 10]
abbrev dktX1_init_2_4 : List UInt8 := dkwX1_init_2_4 ++ dktX1_init_2_5
def dkwX1_init_2_3 : List UInt8 := [181, 0, 39, 42, 187, 0, 42, 89, 183, 0, 44, 181, 0, 45, 42, 187, 0, 42, 89, 183, 0, 44]
abbrev dktX1_init_2_3 : List UInt8 := dkwX1_init_2_3 ++ dktX1_init_2_4
def dkwX1_init_2_2 : List UInt8 := [181, 0, 29, 42, 187, 0, 32, 89, 183, 0, 34, 181, 0, 35, 42, 187, 0, 32, 89, 183, 0, 34]
abbrev dktX1_init_2_2 : List UInt8 := dkwX1_init_2_2 ++ dktX1_init_2_3
def dkwX1_init_2_1 : List UInt8 := [181, 0, 22, 42, 187, 0, 19, 89, 183, 0, 21, 181, 0, 26, 42, 187, 0, 19, 89, 183, 0, 21]
abbrev dktX1_init_2_1 : List UInt8 := dkwX1_init_2_1 ++ dktX1_init_2_2
def dkwX1_init_2_0 : List UInt8 := [42, 183, 0, 7, 42, 187, 0, 12, 89, 183, 0, 14, 181, 0, 15, 42, 187, 0, 19, 89, 183, 0, 21]
abbrev dktX1_init_2_0 : List UInt8 := dkwX1_init_2_0 ++ dktX1_init_2_1
theorem dksX1_init_2_0 : cX1_init_2.data.toList.drop 0 = dktX1_init_2_0 := by decide +kernel
theorem dksX1_init_2_1 : cX1_init_2.data.toList.drop 23 = dktX1_init_2_1 := dk_seg dksX1_init_2_0 23 rfl rfl
theorem dksX1_init_2_2 : cX1_init_2.data.toList.drop 45 = dktX1_init_2_2 := dk_seg dksX1_init_2_1 22 rfl rfl
theorem dksX1_init_2_3 : cX1_init_2.data.toList.drop 67 = dktX1_init_2_3 := dk_seg dksX1_init_2_2 22 rfl rfl
theorem dksX1_init_2_4 : cX1_init_2.data.toList.drop 89 = dktX1_init_2_4 := dk_seg dksX1_init_2_3 22 rfl rfl
theorem dksX1_init_2_5 : cX1_init_2.data.toList.drop 112 = dktX1_init_2_5 := dk_seg dksX1_init_2_4 23 rfl rfl
theorem dksX1_init_2_6 : cX1_init_2.data.toList.drop 135 = dktX1_init_2_6 := dk_seg dksX1_init_2_5 23 rfl rfl
theorem dksX1_init_2_7 : cX1_init_2.data.toList.drop 158 = dktX1_init_2_7 := dk_seg dksX1_init_2_6 23 rfl rfl
theorem dksX1_init_2_8 : cX1_init_2.data.toList.drop 182 = dktX1_init_2_8 := dk_seg dksX1_init_2_7 24 rfl rfl
theorem dksX1_init_2_9 : cX1_init_2.data.toList.drop 205 = dktX1_init_2_9 := dk_seg dksX1_init_2_8 23 rfl rfl
theorem dX1_init_2_0 : decode cX1_init_2 0 = .ok (.aload_n 0, 1) := dk_42 (dk_at dksX1_init_2_0 0 rfl rfl)
theorem dX1_init_2_1 : decode cX1_init_2 1 = .ok (.invokespecial 7, 3) := dk_183 0 7 (dk_at dksX1_init_2_0 1 rfl rfl)
theorem dX1_init_2_4 : decode cX1_init_2 4 = .ok (.aload_n 0, 1) := dk_42 (dk_at dksX1_init_2_0 4 rfl rfl)
theorem dX1_init_2_5 : decode cX1_init_2 5 = .ok (.new 12, 3) := dk_187 0 12 (dk_at dksX1_init_2_0 5 rfl rfl)
theorem dX1_init_2_8 : decode cX1_init_2 8 = .ok (.dup, 1) := dk_89 (dk_at dksX1_init_2_0 8 rfl rfl)
theorem dX1_init_2_9 : decode cX1_init_2 9 = .ok (.invokespecial 14, 3) := dk_183 0 14 (dk_at dksX1_init_2_0 9 rfl rfl)
theorem dX1_init_2_12 : decode cX1_init_2 12 = .ok (.putfield 15, 3) := dk_181 0 15 (dk_at dksX1_init_2_0 12 rfl rfl)
theorem dX1_init_2_15 : decode cX1_init_2 15 = .ok (.aload_n 0, 1) := dk_42 (dk_at dksX1_init_2_0 15 rfl rfl)
theorem dX1_init_2_16 : decode cX1_init_2 16 = .ok (.new 19, 3) := dk_187 0 19 (dk_at dksX1_init_2_0 16 rfl rfl)
theorem dX1_init_2_19 : decode cX1_init_2 19 = .ok (.dup, 1) := dk_89 (dk_at dksX1_init_2_0 19 rfl rfl)
theorem dX1_init_2_20 : decode cX1_init_2 20 = .ok (.invokespecial 21, 3) := dk_183 0 21 (dk_at dksX1_init_2_0 20 rfl rfl)
theorem dX1_init_2_23 : decode cX1_init_2 23 = .ok (.putfield 22, 3) := dk_181 0 22 (dk_at dksX1_init_2_1 0 rfl rfl)
theorem dX1_init_2_26 : decode cX1_init_2 26 = .ok (.aload_n 0, 1) := dk_42 (dk_at dksX1_init_2_1 3 rfl rfl)
theorem dX1_init_2_27 : decode cX1_init_2 27 = .ok (.new 19, 3) := dk_187 0 19 (dk_at dksX1_init_2_1 4 rfl rfl)
theorem dX1_init_2_30 : decode cX1_init_2 30 = .ok (.dup, 1) := dk_89 (dk_at dksX1_init_2_1 7 rfl rfl)
theorem dX1_init_2_31 : decode cX1_init_2 31 = .ok (.invokespecial 21, 3) := dk_183 0 21 (dk_at dksX1_init_2_1 8 rfl rfl)
theorem dX1_init_2_34 : decode cX1_init_2 34 = .ok (.putfield 26, 3) := dk_181 0 26 (dk_at dksX1_init_2_1 11 rfl rfl)
theorem dX1_init_2_37 : decode cX1_init_2 37 = .ok (.aload_n 0, 1) := dk_42 (dk_at dksX1_init_2_1 14 rfl rfl)
theorem dX1_init_2_38 : decode cX1_init_2 38 = .ok (.new 19, 3) := dk_187 0 19 (dk_at dksX1_init_2_1 15 rfl rfl)
theorem dX1_init_2_41 : decode cX1_init_2 41 = .ok (.dup, 1) := dk_89 (dk_at dksX1_init_2_1 18 rfl rfl)
theorem dX1_init_2_42 : decode cX1_init_2 42 = .ok (.invokespecial 21, 3) := dk_183 0 21 (dk_at dksX1_init_2_1 19 rfl rfl)
theorem dX1_init_2_45 : decode cX1_init_2 45 = .ok (.putfield 29, 3) := dk_181 0 29 (dk_at dksX1_init_2_2 0 rfl rfl)
theorem dX1_init_2_48 : decode cX1_init_2 48 = .ok (.aload_n 0, 1) := dk_42 (dk_at dksX1_init_2_2 3 rfl rfl)
theorem dX1_init_2_49 : decode cX1_init_2 49 = .ok (.new 32, 3) := dk_187 0 32 (dk_at dksX1_init_2_2 4 rfl rfl)
theorem dX1_init_2_52 : decode cX1_init_2 52 = .ok (.dup, 1) := dk_89 (dk_at dksX1_init_2_2 7 rfl rfl)
theorem dX1_init_2_53 : decode cX1_init_2 53 = .ok (.invokespecial 34, 3) := dk_183 0 34 (dk_at dksX1_init_2_2 8 rfl rfl)
theorem dX1_init_2_56 : decode cX1_init_2 56 = .ok (.putfield 35, 3) := dk_181 0 35 (dk_at dksX1_init_2_2 11 rfl rfl)
theorem dX1_init_2_59 : decode cX1_init_2 59 = .ok (.aload_n 0, 1) := dk_42 (dk_at dksX1_init_2_2 14 rfl rfl)
theorem dX1_init_2_60 : decode cX1_init_2 60 = .ok (.new 32, 3) := dk_187 0 32 (dk_at dksX1_init_2_2 15 rfl rfl)
theorem dX1_init_2_63 : decode cX1_init_2 63 = .ok (.dup, 1) := dk_89 (dk_at dksX1_init_2_2 18 rfl rfl)
theorem dX1_init_2_64 : decode cX1_init_2 64 = .ok (.invokespecial 34, 3) := dk_183 0 34 (dk_at dksX1_init_2_2 19 rfl rfl)
theorem dX1_init_2_67 : decode cX1_init_2 67 = .ok (.putfield 39, 3) := dk_181 0 39 (dk_at dksX1_init_2_3 0 rfl rfl)
theorem dX1_init_2_70 : decode cX1_init_2 70 = .ok (.aload_n 0, 1) := dk_42 (dk_at dksX1_init_2_3 3 rfl rfl)
theorem dX1_init_2_71 : decode cX1_init_2 71 = .ok (.new 42, 3) := dk_187 0 42 (dk_at dksX1_init_2_3 4 rfl rfl)
theorem dX1_init_2_74 : decode cX1_init_2 74 = .ok (.dup, 1) := dk_89 (dk_at dksX1_init_2_3 7 rfl rfl)
theorem dX1_init_2_75 : decode cX1_init_2 75 = .ok (.invokespecial 44, 3) := dk_183 0 44 (dk_at dksX1_init_2_3 8 rfl rfl)
theorem dX1_init_2_78 : decode cX1_init_2 78 = .ok (.putfield 45, 3) := dk_181 0 45 (dk_at dksX1_init_2_3 11 rfl rfl)
theorem dX1_init_2_81 : decode cX1_init_2 81 = .ok (.aload_n 0, 1) := dk_42 (dk_at dksX1_init_2_3 14 rfl rfl)
theorem dX1_init_2_82 : decode cX1_init_2 82 = .ok (.new 42, 3) := dk_187 0 42 (dk_at dksX1_init_2_3 15 rfl rfl)
theorem dX1_init_2_85 : decode cX1_init_2 85 = .ok (.dup, 1) := dk_89 (dk_at dksX1_init_2_3 18 rfl rfl)
theorem dX1_init_2_86 : decode cX1_init_2 86 = .ok (.invokespecial 44, 3) := dk_183 0 44 (dk_at dksX1_init_2_3 19 rfl rfl)
theorem dX1_init_2_89 : decode cX1_init_2 89 = .ok (.putfield 49, 3) := dk_181 0 49 (dk_at dksX1_init_2_4 0 rfl rfl)
theorem dX1_init_2_92 : decode cX1_init_2 92 = .ok (.aload_n 0, 1) := dk_42 (dk_at dksX1_init_2_4 3 rfl rfl)
theorem dX1_init_2_93 : decode cX1_init_2 93 = .ok (.bipush 8, 2) := dk_16 8 (dk_at dksX1_init_2_4 4 rfl rfl)
theorem dX1_init_2_95 : decode cX1_init_2 95 = .ok (.newarray .int, 2) := dk_188_10 (dk_at dksX1_init_2_4 6 rfl rfl)
theorem dX1_init_2_97 : decode cX1_init_2 97 = .ok (.putfield 52, 3) := dk_181 0 52 (dk_at dksX1_init_2_4 8 rfl rfl)
theorem dX1_init_2_100 : decode cX1_init_2 100 = .ok (.aload_n 0, 1) := dk_42 (dk_at dksX1_init_2_4 11 rfl rfl)
theorem dX1_init_2_101 : decode cX1_init_2 101 = .ok (.sipush 256, 3) := dk_17 1 0 (dk_at dksX1_init_2_4 12 rfl rfl)
theorem dX1_init_2_104 : decode cX1_init_2 104 = .ok (.newarray .int, 2) := dk_188_10 (dk_at dksX1_init_2_4 15 rfl rfl)
theorem dX1_init_2_106 : decode cX1_init_2 106 = .ok (.putfield 56, 3) := dk_181 0 56 (dk_at dksX1_init_2_4 17 rfl rfl)
theorem dX1_init_2_109 : decode cX1_init_2 109 = .ok (.aload_n 0, 1) := dk_42 (dk_at dksX1_init_2_4 20 rfl rfl)
theorem dX1_init_2_110 : decode cX1_init_2 110 = .ok (.bipush 10, 2) := dk_16 10 (dk_at dksX1_init_2_4 21 rfl rfl)
theorem dX1_init_2_112 : decode cX1_init_2 112 = .ok (.newarray .int, 2) := dk_188_10 (dk_at dksX1_init_2_5 0 rfl rfl)
theorem dX1_init_2_114 : decode cX1_init_2 114 = .ok (.putfield 59, 3) := dk_181 0 59 (dk_at dksX1_init_2_5 2 rfl rfl)
theorem dX1_init_2_117 : decode cX1_init_2 117 = .ok (.aload_n 0, 1) := dk_42 (dk_at dksX1_init_2_5 5 rfl rfl)
theorem dX1_init_2_118 : decode cX1_init_2 118 = .ok (.bipush 81, 2) := dk_16 81 (dk_at dksX1_init_2_5 6 rfl rfl)
theorem dX1_init_2_120 : decode cX1_init_2 120 = .ok (.newarray .int, 2) := dk_188_10 (dk_at dksX1_init_2_5 8 rfl rfl)
theorem dX1_init_2_122 : decode cX1_init_2 122 = .ok (.putfield 62, 3) := dk_181 0 62 (dk_at dksX1_init_2_5 10 rfl rfl)
theorem dX1_init_2_125 : decode cX1_init_2 125 = .ok (.aload_n 0, 1) := dk_42 (dk_at dksX1_init_2_5 13 rfl rfl)
theorem dX1_init_2_126 : decode cX1_init_2 126 = .ok (.iconst (-1), 1) := dk_2 (dk_at dksX1_init_2_5 14 rfl rfl)
theorem dX1_init_2_127 : decode cX1_init_2 127 = .ok (.putfield 65, 3) := dk_181 0 65 (dk_at dksX1_init_2_5 15 rfl rfl)
theorem dX1_init_2_130 : decode cX1_init_2 130 = .ok (.aload_n 0, 1) := dk_42 (dk_at dksX1_init_2_5 18 rfl rfl)
theorem dX1_init_2_131 : decode cX1_init_2 131 = .ok (.iload_n 1, 1) := dk_27 (dk_at dksX1_init_2_5 19 rfl rfl)
theorem dX1_init_2_132 : decode cX1_init_2 132 = .ok (.anewarray 19, 3) := dk_189 0 19 (dk_at dksX1_init_2_5 20 rfl rfl)
theorem dX1_init_2_135 : decode cX1_init_2 135 = .ok (.putfield 69, 3) := dk_181 0 69 (dk_at dksX1_init_2_6 0 rfl rfl)
theorem dX1_init_2_138 : decode cX1_init_2 138 = .ok (.iconst 0, 1) := dk_3 (dk_at dksX1_init_2_6 3 rfl rfl)
theorem dX1_init_2_139 : decode cX1_init_2 139 = .ok (.istore_n 3, 1) := dk_62 (dk_at dksX1_init_2_6 4 rfl rfl)
theorem dX1_init_2_140 : decode cX1_init_2 140 = .ok (.iload_n 3, 1) := dk_29 (dk_at dksX1_init_2_6 5 rfl rfl)
theorem dX1_init_2_141 : decode cX1_init_2 141 = .ok (.iload_n 1, 1) := dk_27 (dk_at dksX1_init_2_6 6 rfl rfl)
theorem dX1_init_2_142 : decode cX1_init_2 142 = .ok (.if_icmp .ge 22, 3) := dk_162 0 22 (dk_at dksX1_init_2_6 7 rfl rfl)
theorem dX1_init_2_145 : decode cX1_init_2 145 = .ok (.aload_n 0, 1) := dk_42 (dk_at dksX1_init_2_6 10 rfl rfl)
theorem dX1_init_2_146 : decode cX1_init_2 146 = .ok (.getfield 69, 3) := dk_180 0 69 (dk_at dksX1_init_2_6 11 rfl rfl)
theorem dX1_init_2_149 : decode cX1_init_2 149 = .ok (.iload_n 3, 1) := dk_29 (dk_at dksX1_init_2_6 14 rfl rfl)
theorem dX1_init_2_150 : decode cX1_init_2 150 = .ok (.new 19, 3) := dk_187 0 19 (dk_at dksX1_init_2_6 15 rfl rfl)
theorem dX1_init_2_153 : decode cX1_init_2 153 = .ok (.dup, 1) := dk_89 (dk_at dksX1_init_2_6 18 rfl rfl)
theorem dX1_init_2_154 : decode cX1_init_2 154 = .ok (.invokespecial 21, 3) := dk_183 0 21 (dk_at dksX1_init_2_6 19 rfl rfl)
theorem dX1_init_2_157 : decode cX1_init_2 157 = .ok (.aastore, 1) := dk_83 (dk_at dksX1_init_2_6 22 rfl rfl)
theorem dX1_init_2_158 : decode cX1_init_2 158 = .ok (.iinc 3 1, 3) := dk_132 3 1 (dk_at dksX1_init_2_7 0 rfl rfl)
theorem dX1_init_2_161 : decode cX1_init_2 161 = .ok (.goto (-21), 3) := dk_167 255 235 (dk_at dksX1_init_2_7 3 rfl rfl)
theorem dX1_init_2_164 : decode cX1_init_2 164 = .ok (.iconst 0, 1) := dk_3 (dk_at dksX1_init_2_7 6 rfl rfl)
theorem dX1_init_2_165 : decode cX1_init_2 165 = .ok (.istore_n 3, 1) := dk_62 (dk_at dksX1_init_2_7 7 rfl rfl)
theorem dX1_init_2_166 : decode cX1_init_2 166 = .ok (.iload_n 3, 1) := dk_29 (dk_at dksX1_init_2_7 8 rfl rfl)
theorem dX1_init_2_167 : decode cX1_init_2 167 = .ok (.aload_n 2, 1) := dk_44 (dk_at dksX1_init_2_7 9 rfl rfl)
theorem dX1_init_2_168 : decode cX1_init_2 168 = .ok (.arraylength, 1) := dk_190 (dk_at dksX1_init_2_7 10 rfl rfl)
theorem dX1_init_2_169 : decode cX1_init_2 169 = .ok (.if_icmp .ge 21, 3) := dk_162 0 21 (dk_at dksX1_init_2_7 11 rfl rfl)
theorem dX1_init_2_172 : decode cX1_init_2 172 = .ok (.aload_n 0, 1) := dk_42 (dk_at dksX1_init_2_7 14 rfl rfl)
theorem dX1_init_2_173 : decode cX1_init_2 173 = .ok (.getfield 22, 3) := dk_180 0 22 (dk_at dksX1_init_2_7 15 rfl rfl)
theorem dX1_init_2_176 : decode cX1_init_2 176 = .ok (.getfield 73, 3) := dk_180 0 73 (dk_at dksX1_init_2_7 18 rfl rfl)
theorem dX1_init_2_179 : decode cX1_init_2 179 = .ok (.iload_n 3, 1) := dk_29 (dk_at dksX1_init_2_7 21 rfl rfl)
theorem dX1_init_2_180 : decode cX1_init_2 180 = .ok (.aload_n 2, 1) := dk_44 (dk_at dksX1_init_2_7 22 rfl rfl)
theorem dX1_init_2_181 : decode cX1_init_2 181 = .ok (.iload_n 3, 1) := dk_29 (dk_at dksX1_init_2_7 23 rfl rfl)
theorem dX1_init_2_182 : decode cX1_init_2 182 = .ok (.iaload, 1) := dk_46 (dk_at dksX1_init_2_8 0 rfl rfl)
theorem dX1_init_2_183 : decode cX1_init_2 183 = .ok (.iastore, 1) := dk_79 (dk_at dksX1_init_2_8 1 rfl rfl)
theorem dX1_init_2_184 : decode cX1_init_2 184 = .ok (.iinc 3 1, 3) := dk_132 3 1 (dk_at dksX1_init_2_8 2 rfl rfl)
theorem dX1_init_2_187 : decode cX1_init_2 187 = .ok (.goto (-21), 3) := dk_167 255 235 (dk_at dksX1_init_2_8 5 rfl rfl)
theorem dX1_init_2_190 : decode cX1_init_2 190 = .ok (.aload_n 0, 1) := dk_42 (dk_at dksX1_init_2_8 8 rfl rfl)
theorem dX1_init_2_191 : decode cX1_init_2 191 = .ok (.getfield 22, 3) := dk_180 0 22 (dk_at dksX1_init_2_8 9 rfl rfl)
theorem dX1_init_2_194 : decode cX1_init_2 194 = .ok (.aload_n 0, 1) := dk_42 (dk_at dksX1_init_2_8 12 rfl rfl)
theorem dX1_init_2_195 : decode cX1_init_2 195 = .ok (.getfield 22, 3) := dk_180 0 22 (dk_at dksX1_init_2_8 13 rfl rfl)
theorem dX1_init_2_198 : decode cX1_init_2 198 = .ok (.getfield 76, 3) := dk_180 0 76 (dk_at dksX1_init_2_8 16 rfl rfl)
theorem dX1_init_2_201 : decode cX1_init_2 201 = .ok (.aload_n 0, 1) := dk_42 (dk_at dksX1_init_2_8 19 rfl rfl)
theorem dX1_init_2_202 : decode cX1_init_2 202 = .ok (.getfield 22, 3) := dk_180 0 22 (dk_at dksX1_init_2_8 20 rfl rfl)
theorem dX1_init_2_205 : decode cX1_init_2 205 = .ok (.getfield 79, 3) := dk_180 0 79 (dk_at dksX1_init_2_9 0 rfl rfl)
theorem dX1_init_2_208 : decode cX1_init_2 208 = .ok (.invokevirtual 82, 3) := dk_182 0 82 (dk_at dksX1_init_2_9 3 rfl rfl)
theorem dX1_init_2_211 : decode cX1_init_2 211 = .ok (.return_, 1) := dk_177 (dk_at dksX1_init_2_9 6 rfl rfl)
abbrev cX1_feed : ByteArray := prog_1_method_14_code
def yX1_feed : MethodName := ⟨RX1, "feed", "(IIIII)I"⟩
def dkwX1_feed_2 : List UInt8 := [180, 0, 15, 180, 0, 123, 172]
abbrev dktX1_feed_2 : List UInt8 := dkwX1_feed_2 ++ []
def dkwX1_feed_1 : List UInt8 := [28, 182, 0, 126, 42, 29, 182, 0, 126, 42, 21, 4, 182, 0, 126, 42, 21, 5, 182, 0, 126, 42]
abbrev dktX1_feed_1 : List UInt8 := dkwX1_feed_1 ++ dktX1_feed_2
def dkwX1_feed_0 : List UInt8 := [42, 180, 0, 15, 180, 0, 123, 16, 20, 96, 17, 1, 144, 164, 0, 5, 2, 172, 42, 27, 182, 0, 126, 42]
abbrev dktX1_feed_0 : List UInt8 := dkwX1_feed_0 ++ dktX1_feed_1
theorem dksX1_feed_0 : cX1_feed.data.toList.drop 0 = dktX1_feed_0 := by decide +kernel
theorem dksX1_feed_1 : cX1_feed.data.toList.drop 24 = dktX1_feed_1 := dk_seg dksX1_feed_0 24 rfl rfl
theorem dksX1_feed_2 : cX1_feed.data.toList.drop 46 = dktX1_feed_2 := dk_seg dksX1_feed_1 22 rfl rfl
theorem dX1_feed_0 : decode cX1_feed 0 = .ok (.aload_n 0, 1) := dk_42 (dk_at dksX1_feed_0 0 rfl rfl)
theorem dX1_feed_1 : decode cX1_feed 1 = .ok (.getfield 15, 3) := dk_180 0 15 (dk_at dksX1_feed_0 1 rfl rfl)
theorem dX1_feed_4 : decode cX1_feed 4 = .ok (.getfield 123, 3) := dk_180 0 123 (dk_at dksX1_feed_0 4 rfl rfl)
theorem dX1_feed_7 : decode cX1_feed 7 = .ok (.bipush 20, 2) := dk_16 20 (dk_at dksX1_feed_0 7 rfl rfl)
theorem dX1_feed_9 : decode cX1_feed 9 = .ok (.iadd, 1) := dk_96 (dk_at dksX1_feed_0 9 rfl rfl)
theorem dX1_feed_10 : decode cX1_feed 10 = .ok (.sipush 400, 3) := dk_17 1 144 (dk_at dksX1_feed_0 10 rfl rfl)
theorem dX1_feed_13 : decode cX1_feed 13 = .ok (.if_icmp .le 5, 3) := dk_164 0 5 (dk_at dksX1_feed_0 13 rfl rfl)
theorem dX1_feed_16 : decode cX1_feed 16 = .ok (.iconst (-1), 1) := dk_2 (dk_at dksX1_feed_0 16 rfl rfl)
theorem dX1_feed_17 : decode cX1_feed 17 = .ok (.ireturn, 1) := dk_172 (dk_at dksX1_feed_0 17 rfl rfl)
theorem dX1_feed_18 : decode cX1_feed 18 = .ok (.aload_n 0, 1) := dk_42 (dk_at dksX1_feed_0 18 rfl rfl)
theorem dX1_feed_19 : decode cX1_feed 19 = .ok (.iload_n 1, 1) := dk_27 (dk_at dksX1_feed_0 19 rfl rfl)
theorem dX1_feed_20 : decode cX1_feed 20 = .ok (.invokevirtual 126, 3) := dk_182 0 126 (dk_at dksX1_feed_0 20 rfl rfl)
theorem dX1_feed_23 : decode cX1_feed 23 = .ok (.aload_n 0, 1) := dk_42 (dk_at dksX1_feed_0 23 rfl rfl)
theorem dX1_feed_24 : decode cX1_feed 24 = .ok (.iload_n 2, 1) := dk_28 (dk_at dksX1_feed_1 0 rfl rfl)
theorem dX1_feed_25 : decode cX1_feed 25 = .ok (.invokevirtual 126, 3) := dk_182 0 126 (dk_at dksX1_feed_1 1 rfl rfl)
theorem dX1_feed_28 : decode cX1_feed 28 = .ok (.aload_n 0, 1) := dk_42 (dk_at dksX1_feed_1 4 rfl rfl)
theorem dX1_feed_29 : decode cX1_feed 29 = .ok (.iload_n 3, 1) := dk_29 (dk_at dksX1_feed_1 5 rfl rfl)
theorem dX1_feed_30 : decode cX1_feed 30 = .ok (.invokevirtual 126, 3) := dk_182 0 126 (dk_at dksX1_feed_1 6 rfl rfl)
theorem dX1_feed_33 : decode cX1_feed 33 = .ok (.aload_n 0, 1) := dk_42 (dk_at dksX1_feed_1 9 rfl rfl)
theorem dX1_feed_34 : decode cX1_feed 34 = .ok (.iload 4, 2) := dk_21 4 (dk_at dksX1_feed_1 10 rfl rfl)
theorem dX1_feed_36 : decode cX1_feed 36 = .ok (.invokevirtual 126, 3) := dk_182 0 126 (dk_at dksX1_feed_1 12 rfl rfl)
theorem dX1_feed_39 : decode cX1_feed 39 = .ok (.aload_n 0, 1) := dk_42 (dk_at dksX1_feed_1 15 rfl rfl)
theorem dX1_feed_40 : decode cX1_feed 40 = .ok (.iload 5, 2) := dk_21 5 (dk_at dksX1_feed_1 16 rfl rfl)
theorem dX1_feed_42 : decode cX1_feed 42 = .ok (.invokevirtual 126, 3) := dk_182 0 126 (dk_at dksX1_feed_1 18 rfl rfl)
theorem dX1_feed_45 : decode cX1_feed 45 = .ok (.aload_n 0, 1) := dk_42 (dk_at dksX1_feed_1 21 rfl rfl)
theorem dX1_feed_46 : decode cX1_feed 46 = .ok (.getfield 15, 3) := dk_180 0 15 (dk_at dksX1_feed_2 0 rfl rfl)
theorem dX1_feed_49 : decode cX1_feed 49 = .ok (.getfield 123, 3) := dk_180 0 123 (dk_at dksX1_feed_2 3 rfl rfl)
theorem dX1_feed_52 : decode cX1_feed 52 = .ok (.ireturn, 1) := dk_172 (dk_at dksX1_feed_2 6 rfl rfl)
abbrev cX1_four : ByteArray := prog_1_method_13_code
def yX1_four : MethodName := ⟨RX1, "four", "(I)V"⟩
def dkwX1_four_1 : List UInt8 := [145, 84, 42, 180, 0, 15, 89, 180, 0, 123, 4, 96, 181, 0, 123, 132, 2, 248, 167, 255, 217, 177]
abbrev dktX1_four_1 : List UInt8 := dkwX1_four_1 ++ []
def dkwX1_four_0 : List UInt8 := [16, 24, 61, 28, 155, 0, 41, 42, 180, 0, 15, 180, 0, 119, 42, 180, 0, 15, 180, 0, 123, 27, 28, 122]
abbrev dktX1_four_0 : List UInt8 := dkwX1_four_0 ++ dktX1_four_1
theorem dksX1_four_0 : cX1_four.data.toList.drop 0 = dktX1_four_0 := by decide +kernel
theorem dksX1_four_1 : cX1_four.data.toList.drop 24 = dktX1_four_1 := dk_seg dksX1_four_0 24 rfl rfl
theorem dX1_four_0 : decode cX1_four 0 = .ok (.bipush 24, 2) := dk_16 24 (dk_at dksX1_four_0 0 rfl rfl)
theorem dX1_four_2 : decode cX1_four 2 = .ok (.istore_n 2, 1) := dk_61 (dk_at dksX1_four_0 2 rfl rfl)
theorem dX1_four_3 : decode cX1_four 3 = .ok (.iload_n 2, 1) := dk_28 (dk_at dksX1_four_0 3 rfl rfl)
theorem dX1_four_4 : decode cX1_four 4 = .ok (.ifCond .lt 41, 3) := dk_155 0 41 (dk_at dksX1_four_0 4 rfl rfl)
theorem dX1_four_7 : decode cX1_four 7 = .ok (.aload_n 0, 1) := dk_42 (dk_at dksX1_four_0 7 rfl rfl)
theorem dX1_four_8 : decode cX1_four 8 = .ok (.getfield 15, 3) := dk_180 0 15 (dk_at dksX1_four_0 8 rfl rfl)
theorem dX1_four_11 : decode cX1_four 11 = .ok (.getfield 119, 3) := dk_180 0 119 (dk_at dksX1_four_0 11 rfl rfl)
theorem dX1_four_14 : decode cX1_four 14 = .ok (.aload_n 0, 1) := dk_42 (dk_at dksX1_four_0 14 rfl rfl)
theorem dX1_four_15 : decode cX1_four 15 = .ok (.getfield 15, 3) := dk_180 0 15 (dk_at dksX1_four_0 15 rfl rfl)
theorem dX1_four_18 : decode cX1_four 18 = .ok (.getfield 123, 3) := dk_180 0 123 (dk_at dksX1_four_0 18 rfl rfl)
theorem dX1_four_21 : decode cX1_four 21 = .ok (.iload_n 1, 1) := dk_27 (dk_at dksX1_four_0 21 rfl rfl)
theorem dX1_four_22 : decode cX1_four 22 = .ok (.iload_n 2, 1) := dk_28 (dk_at dksX1_four_0 22 rfl rfl)
theorem dX1_four_23 : decode cX1_four 23 = .ok (.ishr, 1) := dk_122 (dk_at dksX1_four_0 23 rfl rfl)
theorem dX1_four_24 : decode cX1_four 24 = .ok (.i2b, 1) := dk_145 (dk_at dksX1_four_1 0 rfl rfl)
theorem dX1_four_25 : decode cX1_four 25 = .ok (.bastore, 1) := dk_84 (dk_at dksX1_four_1 1 rfl rfl)
theorem dX1_four_26 : decode cX1_four 26 = .ok (.aload_n 0, 1) := dk_42 (dk_at dksX1_four_1 2 rfl rfl)
theorem dX1_four_27 : decode cX1_four 27 = .ok (.getfield 15, 3) := dk_180 0 15 (dk_at dksX1_four_1 3 rfl rfl)
theorem dX1_four_30 : decode cX1_four 30 = .ok (.dup, 1) := dk_89 (dk_at dksX1_four_1 6 rfl rfl)
theorem dX1_four_31 : decode cX1_four 31 = .ok (.getfield 123, 3) := dk_180 0 123 (dk_at dksX1_four_1 7 rfl rfl)
theorem dX1_four_34 : decode cX1_four 34 = .ok (.iconst 1, 1) := dk_4 (dk_at dksX1_four_1 10 rfl rfl)
theorem dX1_four_35 : decode cX1_four 35 = .ok (.iadd, 1) := dk_96 (dk_at dksX1_four_1 11 rfl rfl)
theorem dX1_four_36 : decode cX1_four 36 = .ok (.putfield 123, 3) := dk_181 0 123 (dk_at dksX1_four_1 12 rfl rfl)
theorem dX1_four_39 : decode cX1_four 39 = .ok (.iinc 2 (-8), 3) := dk_132 2 248 (dk_at dksX1_four_1 15 rfl rfl)
theorem dX1_four_42 : decode cX1_four 42 = .ok (.goto (-39), 3) := dk_167 255 217 (dk_at dksX1_four_1 18 rfl rfl)
theorem dX1_four_45 : decode cX1_four 45 = .ok (.return_, 1) := dk_177 (dk_at dksX1_four_1 21 rfl rfl)
abbrev cX1_end : ByteArray := prog_1_method_15_code
def yX1_end : MethodName := ⟨RX1, "end", "(I)Z"⟩
def dkwX1_end_1 : List UInt8 := [181, 0, 123, 4, 172]
abbrev dktX1_end_1 : List UInt8 := dkwX1_end_1 ++ []
def dkwX1_end_0 : List UInt8 := [27, 3, 42, 180, 0, 15, 180, 0, 123, 184, 0, 104, 154, 0, 5, 3, 172, 42, 180, 0, 15, 27]
abbrev dktX1_end_0 : List UInt8 := dkwX1_end_0 ++ dktX1_end_1
theorem dksX1_end_0 : cX1_end.data.toList.drop 0 = dktX1_end_0 := by decide +kernel
theorem dksX1_end_1 : cX1_end.data.toList.drop 22 = dktX1_end_1 := dk_seg dksX1_end_0 22 rfl rfl
theorem dX1_end_0 : decode cX1_end 0 = .ok (.iload_n 1, 1) := dk_27 (dk_at dksX1_end_0 0 rfl rfl)
theorem dX1_end_1 : decode cX1_end 1 = .ok (.iconst 0, 1) := dk_3 (dk_at dksX1_end_0 1 rfl rfl)
theorem dX1_end_2 : decode cX1_end 2 = .ok (.aload_n 0, 1) := dk_42 (dk_at dksX1_end_0 2 rfl rfl)
theorem dX1_end_3 : decode cX1_end 3 = .ok (.getfield 15, 3) := dk_180 0 15 (dk_at dksX1_end_0 3 rfl rfl)
theorem dX1_end_6 : decode cX1_end 6 = .ok (.getfield 123, 3) := dk_180 0 123 (dk_at dksX1_end_0 6 rfl rfl)
theorem dX1_end_9 : decode cX1_end 9 = .ok (.invokestatic 104, 3) := dk_184 0 104 (dk_at dksX1_end_0 9 rfl rfl)
theorem dX1_end_12 : decode cX1_end 12 = .ok (.ifCond .ne 5, 3) := dk_154 0 5 (dk_at dksX1_end_0 12 rfl rfl)
theorem dX1_end_15 : decode cX1_end 15 = .ok (.iconst 0, 1) := dk_3 (dk_at dksX1_end_0 15 rfl rfl)
theorem dX1_end_16 : decode cX1_end 16 = .ok (.ireturn, 1) := dk_172 (dk_at dksX1_end_0 16 rfl rfl)
theorem dX1_end_17 : decode cX1_end 17 = .ok (.aload_n 0, 1) := dk_42 (dk_at dksX1_end_0 17 rfl rfl)
theorem dX1_end_18 : decode cX1_end 18 = .ok (.getfield 15, 3) := dk_180 0 15 (dk_at dksX1_end_0 18 rfl rfl)
theorem dX1_end_21 : decode cX1_end 21 = .ok (.iload_n 1, 1) := dk_27 (dk_at dksX1_end_0 21 rfl rfl)
theorem dX1_end_22 : decode cX1_end 22 = .ok (.putfield 123, 3) := dk_181 0 123 (dk_at dksX1_end_1 0 rfl rfl)
theorem dX1_end_25 : decode cX1_end 25 = .ok (.iconst 1, 1) := dk_4 (dk_at dksX1_end_1 3 rfl rfl)
theorem dX1_end_26 : decode cX1_end 26 = .ok (.ireturn, 1) := dk_172 (dk_at dksX1_end_1 4 rfl rfl)
abbrev cX1_isIn : ByteArray := prog_1_method_9_code
def yX1_isIn : MethodName := ⟨RX1, "isIn", "(III)Z"⟩
def dkwX1_isIn_0 : List UInt8 := [26, 27, 161, 0, 12, 26, 28, 163, 0, 7, 4, 167, 0, 4, 3, 172]
abbrev dktX1_isIn_0 : List UInt8 := dkwX1_isIn_0 ++ []
theorem dksX1_isIn_0 : cX1_isIn.data.toList.drop 0 = dktX1_isIn_0 := by decide +kernel
theorem dX1_isIn_0 : decode cX1_isIn 0 = .ok (.iload_n 0, 1) := dk_26 (dk_at dksX1_isIn_0 0 rfl rfl)
theorem dX1_isIn_1 : decode cX1_isIn 1 = .ok (.iload_n 1, 1) := dk_27 (dk_at dksX1_isIn_0 1 rfl rfl)
theorem dX1_isIn_2 : decode cX1_isIn 2 = .ok (.if_icmp .lt 12, 3) := dk_161 0 12 (dk_at dksX1_isIn_0 2 rfl rfl)
theorem dX1_isIn_5 : decode cX1_isIn 5 = .ok (.iload_n 0, 1) := dk_26 (dk_at dksX1_isIn_0 5 rfl rfl)
theorem dX1_isIn_6 : decode cX1_isIn 6 = .ok (.iload_n 2, 1) := dk_28 (dk_at dksX1_isIn_0 6 rfl rfl)
theorem dX1_isIn_7 : decode cX1_isIn 7 = .ok (.if_icmp .gt 7, 3) := dk_163 0 7 (dk_at dksX1_isIn_0 7 rfl rfl)
theorem dX1_isIn_10 : decode cX1_isIn 10 = .ok (.iconst 1, 1) := dk_4 (dk_at dksX1_isIn_0 10 rfl rfl)
theorem dX1_isIn_11 : decode cX1_isIn 11 = .ok (.goto 4, 3) := dk_167 0 4 (dk_at dksX1_isIn_0 11 rfl rfl)
theorem dX1_isIn_14 : decode cX1_isIn 14 = .ok (.iconst 0, 1) := dk_3 (dk_at dksX1_isIn_0 14 rfl rfl)
theorem dX1_isIn_15 : decode cX1_isIn 15 = .ok (.ireturn, 1) := dk_172 (dk_at dksX1_isIn_0 15 rfl rfl)
abbrev cX1_fault : ByteArray := prog_1_method_20_code
def yX1_fault : MethodName := ⟨RX1, "fault", "()I"⟩
theorem dX1_fault_0 : decode cX1_fault 0 = .ok (.aload_n 0, 1) := by decide +kernel
theorem dX1_fault_1 : decode cX1_fault 1 = .ok (.getfield 65, 3) := by decide +kernel
theorem dX1_fault_4 : decode cX1_fault 4 = .ok (.ireturn, 1) := by decide +kernel
abbrev cX1_program : ByteArray := prog_1_method_33_code
def yX1_program : MethodName := ⟨RX1, "program", "(I)I"⟩
def dkwX1_program_1 : List UInt8 := [27, 46, 167, 0, 4, 2, 172]
abbrev dktX1_program_1 : List UInt8 := dkwX1_program_1 ++ []
def dkwX1_program_0 : List UInt8 := [27, 3, 42, 180, 0, 22, 180, 1, 16, 4, 100, 184, 0, 104, 153, 0, 15, 42, 180, 0, 22, 180, 1, 37]
abbrev dktX1_program_0 : List UInt8 := dkwX1_program_0 ++ dktX1_program_1
theorem dksX1_program_0 : cX1_program.data.toList.drop 0 = dktX1_program_0 := by decide +kernel
theorem dksX1_program_1 : cX1_program.data.toList.drop 24 = dktX1_program_1 := dk_seg dksX1_program_0 24 rfl rfl
theorem dX1_program_0 : decode cX1_program 0 = .ok (.iload_n 1, 1) := dk_27 (dk_at dksX1_program_0 0 rfl rfl)
theorem dX1_program_1 : decode cX1_program 1 = .ok (.iconst 0, 1) := dk_3 (dk_at dksX1_program_0 1 rfl rfl)
theorem dX1_program_2 : decode cX1_program 2 = .ok (.aload_n 0, 1) := dk_42 (dk_at dksX1_program_0 2 rfl rfl)
theorem dX1_program_3 : decode cX1_program 3 = .ok (.getfield 22, 3) := dk_180 0 22 (dk_at dksX1_program_0 3 rfl rfl)
theorem dX1_program_6 : decode cX1_program 6 = .ok (.getfield 272, 3) := dk_180 1 16 (dk_at dksX1_program_0 6 rfl rfl)
theorem dX1_program_9 : decode cX1_program 9 = .ok (.iconst 1, 1) := dk_4 (dk_at dksX1_program_0 9 rfl rfl)
theorem dX1_program_10 : decode cX1_program 10 = .ok (.isub, 1) := dk_100 (dk_at dksX1_program_0 10 rfl rfl)
theorem dX1_program_11 : decode cX1_program 11 = .ok (.invokestatic 104, 3) := dk_184 0 104 (dk_at dksX1_program_0 11 rfl rfl)
theorem dX1_program_14 : decode cX1_program 14 = .ok (.ifCond .eq 15, 3) := dk_153 0 15 (dk_at dksX1_program_0 14 rfl rfl)
theorem dX1_program_17 : decode cX1_program 17 = .ok (.aload_n 0, 1) := dk_42 (dk_at dksX1_program_0 17 rfl rfl)
theorem dX1_program_18 : decode cX1_program 18 = .ok (.getfield 22, 3) := dk_180 0 22 (dk_at dksX1_program_0 18 rfl rfl)
theorem dX1_program_21 : decode cX1_program 21 = .ok (.getfield 293, 3) := dk_180 1 37 (dk_at dksX1_program_0 21 rfl rfl)
theorem dX1_program_24 : decode cX1_program 24 = .ok (.iload_n 1, 1) := dk_27 (dk_at dksX1_program_1 0 rfl rfl)
theorem dX1_program_25 : decode cX1_program 25 = .ok (.iaload, 1) := dk_46 (dk_at dksX1_program_1 1 rfl rfl)
theorem dX1_program_26 : decode cX1_program 26 = .ok (.goto 4, 3) := dk_167 0 4 (dk_at dksX1_program_1 2 rfl rfl)
theorem dX1_program_29 : decode cX1_program 29 = .ok (.iconst (-1), 1) := dk_2 (dk_at dksX1_program_1 5 rfl rfl)
theorem dX1_program_30 : decode cX1_program 30 = .ok (.ireturn, 1) := dk_172 (dk_at dksX1_program_1 6 rfl rfl)
abbrev cX1_boot : ByteArray := prog_1_method_40_code
def yX1_boot : MethodName := ⟨RX1, "boot", "()V"⟩
def dkwX1_boot_0 : List UInt8 := [42, 182, 1, 67, 42, 182, 1, 74, 177]
abbrev dktX1_boot_0 : List UInt8 := dkwX1_boot_0 ++ []
theorem dksX1_boot_0 : cX1_boot.data.toList.drop 0 = dktX1_boot_0 := by decide +kernel
theorem dX1_boot_0 : decode cX1_boot 0 = .ok (.aload_n 0, 1) := dk_42 (dk_at dksX1_boot_0 0 rfl rfl)
theorem dX1_boot_1 : decode cX1_boot 1 = .ok (.invokevirtual 323, 3) := dk_182 1 67 (dk_at dksX1_boot_0 1 rfl rfl)
theorem dX1_boot_4 : decode cX1_boot 4 = .ok (.aload_n 0, 1) := dk_42 (dk_at dksX1_boot_0 4 rfl rfl)
theorem dX1_boot_5 : decode cX1_boot 5 = .ok (.invokevirtual 330, 3) := dk_182 1 74 (dk_at dksX1_boot_0 5 rfl rfl)
theorem dX1_boot_8 : decode cX1_boot 8 = .ok (.return_, 1) := dk_177 (dk_at dksX1_boot_0 8 rfl rfl)
abbrev cX1_remembers : ByteArray := prog_1_method_36_code
def yX1_remembers : MethodName := ⟨RX1, "remembers", "()V"⟩
def dkwX1_remembers_1 : List UInt8 := [16, 12, 112, 181, 1, 54, 42, 16, 12, 42, 180, 0, 157, 4, 96, 184, 1, 57, 181, 0, 157, 177]
abbrev dktX1_remembers_1 : List UInt8 := dkwX1_remembers_1 ++ []
def dkwX1_remembers_0 : List UInt8 := [42, 180, 0, 69, 42, 180, 1, 54, 50, 42, 180, 0, 22, 182, 0, 153, 42, 42, 180, 1, 54, 4, 96]
abbrev dktX1_remembers_0 : List UInt8 := dkwX1_remembers_0 ++ dktX1_remembers_1
theorem dksX1_remembers_0 : cX1_remembers.data.toList.drop 0 = dktX1_remembers_0 := by decide +kernel
theorem dksX1_remembers_1 : cX1_remembers.data.toList.drop 23 = dktX1_remembers_1 := dk_seg dksX1_remembers_0 23 rfl rfl
theorem dX1_remembers_0 : decode cX1_remembers 0 = .ok (.aload_n 0, 1) := dk_42 (dk_at dksX1_remembers_0 0 rfl rfl)
theorem dX1_remembers_1 : decode cX1_remembers 1 = .ok (.getfield 69, 3) := dk_180 0 69 (dk_at dksX1_remembers_0 1 rfl rfl)
theorem dX1_remembers_4 : decode cX1_remembers 4 = .ok (.aload_n 0, 1) := dk_42 (dk_at dksX1_remembers_0 4 rfl rfl)
theorem dX1_remembers_5 : decode cX1_remembers 5 = .ok (.getfield 310, 3) := dk_180 1 54 (dk_at dksX1_remembers_0 5 rfl rfl)
theorem dX1_remembers_8 : decode cX1_remembers 8 = .ok (.aaload, 1) := dk_50 (dk_at dksX1_remembers_0 8 rfl rfl)
theorem dX1_remembers_9 : decode cX1_remembers 9 = .ok (.aload_n 0, 1) := dk_42 (dk_at dksX1_remembers_0 9 rfl rfl)
theorem dX1_remembers_10 : decode cX1_remembers 10 = .ok (.getfield 22, 3) := dk_180 0 22 (dk_at dksX1_remembers_0 10 rfl rfl)
theorem dX1_remembers_13 : decode cX1_remembers 13 = .ok (.invokevirtual 153, 3) := dk_182 0 153 (dk_at dksX1_remembers_0 13 rfl rfl)
theorem dX1_remembers_16 : decode cX1_remembers 16 = .ok (.aload_n 0, 1) := dk_42 (dk_at dksX1_remembers_0 16 rfl rfl)
theorem dX1_remembers_17 : decode cX1_remembers 17 = .ok (.aload_n 0, 1) := dk_42 (dk_at dksX1_remembers_0 17 rfl rfl)
theorem dX1_remembers_18 : decode cX1_remembers 18 = .ok (.getfield 310, 3) := dk_180 1 54 (dk_at dksX1_remembers_0 18 rfl rfl)
theorem dX1_remembers_21 : decode cX1_remembers 21 = .ok (.iconst 1, 1) := dk_4 (dk_at dksX1_remembers_0 21 rfl rfl)
theorem dX1_remembers_22 : decode cX1_remembers 22 = .ok (.iadd, 1) := dk_96 (dk_at dksX1_remembers_0 22 rfl rfl)
theorem dX1_remembers_23 : decode cX1_remembers 23 = .ok (.bipush 12, 2) := dk_16 12 (dk_at dksX1_remembers_1 0 rfl rfl)
theorem dX1_remembers_25 : decode cX1_remembers 25 = .ok (.irem, 1) := dk_112 (dk_at dksX1_remembers_1 2 rfl rfl)
theorem dX1_remembers_26 : decode cX1_remembers 26 = .ok (.putfield 310, 3) := dk_181 1 54 (dk_at dksX1_remembers_1 3 rfl rfl)
theorem dX1_remembers_29 : decode cX1_remembers 29 = .ok (.aload_n 0, 1) := dk_42 (dk_at dksX1_remembers_1 6 rfl rfl)
theorem dX1_remembers_30 : decode cX1_remembers 30 = .ok (.bipush 12, 2) := dk_16 12 (dk_at dksX1_remembers_1 7 rfl rfl)
theorem dX1_remembers_32 : decode cX1_remembers 32 = .ok (.aload_n 0, 1) := dk_42 (dk_at dksX1_remembers_1 9 rfl rfl)
theorem dX1_remembers_33 : decode cX1_remembers 33 = .ok (.getfield 157, 3) := dk_180 0 157 (dk_at dksX1_remembers_1 10 rfl rfl)
theorem dX1_remembers_36 : decode cX1_remembers 36 = .ok (.iconst 1, 1) := dk_4 (dk_at dksX1_remembers_1 13 rfl rfl)
theorem dX1_remembers_37 : decode cX1_remembers 37 = .ok (.iadd, 1) := dk_96 (dk_at dksX1_remembers_1 14 rfl rfl)
theorem dX1_remembers_38 : decode cX1_remembers 38 = .ok (.invokestatic 313, 3) := dk_184 1 57 (dk_at dksX1_remembers_1 15 rfl rfl)
theorem dX1_remembers_41 : decode cX1_remembers 41 = .ok (.putfield 157, 3) := dk_181 0 157 (dk_at dksX1_remembers_1 18 rfl rfl)
theorem dX1_remembers_44 : decode cX1_remembers 44 = .ok (.return_, 1) := dk_177 (dk_at dksX1_remembers_1 21 rfl rfl)
abbrev cX1_reboots : ByteArray := prog_1_method_39_code
def yX1_reboots : MethodName := ⟨RX1, "reboots", "()V"⟩
def dkwX1_reboots_0 : List UInt8 := [42, 180, 0, 22, 42, 180, 0, 22, 180, 0, 76, 42, 180, 0, 22, 180, 0, 79, 182, 0, 82, 177]
abbrev dktX1_reboots_0 : List UInt8 := dkwX1_reboots_0 ++ []
theorem dksX1_reboots_0 : cX1_reboots.data.toList.drop 0 = dktX1_reboots_0 := by decide +kernel
theorem dX1_reboots_0 : decode cX1_reboots 0 = .ok (.aload_n 0, 1) := dk_42 (dk_at dksX1_reboots_0 0 rfl rfl)
theorem dX1_reboots_1 : decode cX1_reboots 1 = .ok (.getfield 22, 3) := dk_180 0 22 (dk_at dksX1_reboots_0 1 rfl rfl)
theorem dX1_reboots_4 : decode cX1_reboots 4 = .ok (.aload_n 0, 1) := dk_42 (dk_at dksX1_reboots_0 4 rfl rfl)
theorem dX1_reboots_5 : decode cX1_reboots 5 = .ok (.getfield 22, 3) := dk_180 0 22 (dk_at dksX1_reboots_0 5 rfl rfl)
theorem dX1_reboots_8 : decode cX1_reboots 8 = .ok (.getfield 76, 3) := dk_180 0 76 (dk_at dksX1_reboots_0 8 rfl rfl)
theorem dX1_reboots_11 : decode cX1_reboots 11 = .ok (.aload_n 0, 1) := dk_42 (dk_at dksX1_reboots_0 11 rfl rfl)
theorem dX1_reboots_12 : decode cX1_reboots 12 = .ok (.getfield 22, 3) := dk_180 0 22 (dk_at dksX1_reboots_0 12 rfl rfl)
theorem dX1_reboots_15 : decode cX1_reboots 15 = .ok (.getfield 79, 3) := dk_180 0 79 (dk_at dksX1_reboots_0 15 rfl rfl)
theorem dX1_reboots_18 : decode cX1_reboots 18 = .ok (.invokevirtual 82, 3) := dk_182 0 82 (dk_at dksX1_reboots_0 18 rfl rfl)
theorem dX1_reboots_21 : decode cX1_reboots 21 = .ok (.return_, 1) := dk_177 (dk_at dksX1_reboots_0 21 rfl rfl)
abbrev cX1_hostable : ByteArray := prog_1_method_50_code
def yX1_hostable : MethodName := ⟨RX1, "hostable", "()Z"⟩
def dkwX1_hostable_0 : List UInt8 := [42, 182, 1, 94, 154, 0, 7, 4, 167, 0, 4, 3, 172]
abbrev dktX1_hostable_0 : List UInt8 := dkwX1_hostable_0 ++ []
theorem dksX1_hostable_0 : cX1_hostable.data.toList.drop 0 = dktX1_hostable_0 := by decide +kernel
theorem dX1_hostable_0 : decode cX1_hostable 0 = .ok (.aload_n 0, 1) := dk_42 (dk_at dksX1_hostable_0 0 rfl rfl)
theorem dX1_hostable_1 : decode cX1_hostable 1 = .ok (.invokevirtual 350, 3) := dk_182 1 94 (dk_at dksX1_hostable_0 1 rfl rfl)
theorem dX1_hostable_4 : decode cX1_hostable 4 = .ok (.ifCond .ne 7, 3) := dk_154 0 7 (dk_at dksX1_hostable_0 4 rfl rfl)
theorem dX1_hostable_7 : decode cX1_hostable 7 = .ok (.iconst 1, 1) := dk_4 (dk_at dksX1_hostable_0 7 rfl rfl)
theorem dX1_hostable_8 : decode cX1_hostable 8 = .ok (.goto 4, 3) := dk_167 0 4 (dk_at dksX1_hostable_0 8 rfl rfl)
theorem dX1_hostable_11 : decode cX1_hostable 11 = .ok (.iconst 0, 1) := dk_3 (dk_at dksX1_hostable_0 11 rfl rfl)
theorem dX1_hostable_12 : decode cX1_hostable 12 = .ok (.ireturn, 1) := dk_172 (dk_at dksX1_hostable_0 12 rfl rfl)
abbrev cX1_openOnes : ByteArray := prog_1_method_49_code
def yX1_openOnes : MethodName := ⟨RX1, "openOnes", "()I"⟩
def dkwX1_openOnes_2 : List UInt8 := [120, 167, 0, 4, 3, 128, 60, 132, 2, 1, 167, 255, 202, 27, 172]
abbrev dktX1_openOnes_2 : List UInt8 := dkwX1_openOnes_2 ++ []
def dkwX1_openOnes_1 : List UInt8 := [50, 182, 1, 0, 153, 0, 24, 42, 180, 0, 22, 180, 0, 112, 28, 50, 180, 0, 199, 154, 0, 9, 4, 28]
abbrev dktX1_openOnes_1 : List UInt8 := dkwX1_openOnes_1 ++ dktX1_openOnes_2
def dkwX1_openOnes_0 : List UInt8 := [3, 60, 3, 61, 28, 42, 180, 0, 22, 180, 0, 101, 162, 0, 49, 27, 42, 180, 0, 22, 180, 0, 112, 28]
abbrev dktX1_openOnes_0 : List UInt8 := dkwX1_openOnes_0 ++ dktX1_openOnes_1
theorem dksX1_openOnes_0 : cX1_openOnes.data.toList.drop 0 = dktX1_openOnes_0 := by decide +kernel
theorem dksX1_openOnes_1 : cX1_openOnes.data.toList.drop 24 = dktX1_openOnes_1 := dk_seg dksX1_openOnes_0 24 rfl rfl
theorem dksX1_openOnes_2 : cX1_openOnes.data.toList.drop 48 = dktX1_openOnes_2 := dk_seg dksX1_openOnes_1 24 rfl rfl
theorem dX1_openOnes_0 : decode cX1_openOnes 0 = .ok (.iconst 0, 1) := dk_3 (dk_at dksX1_openOnes_0 0 rfl rfl)
theorem dX1_openOnes_1 : decode cX1_openOnes 1 = .ok (.istore_n 1, 1) := dk_60 (dk_at dksX1_openOnes_0 1 rfl rfl)
theorem dX1_openOnes_2 : decode cX1_openOnes 2 = .ok (.iconst 0, 1) := dk_3 (dk_at dksX1_openOnes_0 2 rfl rfl)
theorem dX1_openOnes_3 : decode cX1_openOnes 3 = .ok (.istore_n 2, 1) := dk_61 (dk_at dksX1_openOnes_0 3 rfl rfl)
theorem dX1_openOnes_4 : decode cX1_openOnes 4 = .ok (.iload_n 2, 1) := dk_28 (dk_at dksX1_openOnes_0 4 rfl rfl)
theorem dX1_openOnes_5 : decode cX1_openOnes 5 = .ok (.aload_n 0, 1) := dk_42 (dk_at dksX1_openOnes_0 5 rfl rfl)
theorem dX1_openOnes_6 : decode cX1_openOnes 6 = .ok (.getfield 22, 3) := dk_180 0 22 (dk_at dksX1_openOnes_0 6 rfl rfl)
theorem dX1_openOnes_9 : decode cX1_openOnes 9 = .ok (.getfield 101, 3) := dk_180 0 101 (dk_at dksX1_openOnes_0 9 rfl rfl)
theorem dX1_openOnes_12 : decode cX1_openOnes 12 = .ok (.if_icmp .ge 49, 3) := dk_162 0 49 (dk_at dksX1_openOnes_0 12 rfl rfl)
theorem dX1_openOnes_15 : decode cX1_openOnes 15 = .ok (.iload_n 1, 1) := dk_27 (dk_at dksX1_openOnes_0 15 rfl rfl)
theorem dX1_openOnes_16 : decode cX1_openOnes 16 = .ok (.aload_n 0, 1) := dk_42 (dk_at dksX1_openOnes_0 16 rfl rfl)
theorem dX1_openOnes_17 : decode cX1_openOnes 17 = .ok (.getfield 22, 3) := dk_180 0 22 (dk_at dksX1_openOnes_0 17 rfl rfl)
theorem dX1_openOnes_20 : decode cX1_openOnes 20 = .ok (.getfield 112, 3) := dk_180 0 112 (dk_at dksX1_openOnes_0 20 rfl rfl)
theorem dX1_openOnes_23 : decode cX1_openOnes 23 = .ok (.iload_n 2, 1) := dk_28 (dk_at dksX1_openOnes_0 23 rfl rfl)
theorem dX1_openOnes_24 : decode cX1_openOnes 24 = .ok (.aaload, 1) := dk_50 (dk_at dksX1_openOnes_1 0 rfl rfl)
theorem dX1_openOnes_25 : decode cX1_openOnes 25 = .ok (.invokevirtual 256, 3) := dk_182 1 0 (dk_at dksX1_openOnes_1 1 rfl rfl)
theorem dX1_openOnes_28 : decode cX1_openOnes 28 = .ok (.ifCond .eq 24, 3) := dk_153 0 24 (dk_at dksX1_openOnes_1 4 rfl rfl)
theorem dX1_openOnes_31 : decode cX1_openOnes 31 = .ok (.aload_n 0, 1) := dk_42 (dk_at dksX1_openOnes_1 7 rfl rfl)
theorem dX1_openOnes_32 : decode cX1_openOnes 32 = .ok (.getfield 22, 3) := dk_180 0 22 (dk_at dksX1_openOnes_1 8 rfl rfl)
theorem dX1_openOnes_35 : decode cX1_openOnes 35 = .ok (.getfield 112, 3) := dk_180 0 112 (dk_at dksX1_openOnes_1 11 rfl rfl)
theorem dX1_openOnes_38 : decode cX1_openOnes 38 = .ok (.iload_n 2, 1) := dk_28 (dk_at dksX1_openOnes_1 14 rfl rfl)
theorem dX1_openOnes_39 : decode cX1_openOnes 39 = .ok (.aaload, 1) := dk_50 (dk_at dksX1_openOnes_1 15 rfl rfl)
theorem dX1_openOnes_40 : decode cX1_openOnes 40 = .ok (.getfield 199, 3) := dk_180 0 199 (dk_at dksX1_openOnes_1 16 rfl rfl)
theorem dX1_openOnes_43 : decode cX1_openOnes 43 = .ok (.ifCond .ne 9, 3) := dk_154 0 9 (dk_at dksX1_openOnes_1 19 rfl rfl)
theorem dX1_openOnes_46 : decode cX1_openOnes 46 = .ok (.iconst 1, 1) := dk_4 (dk_at dksX1_openOnes_1 22 rfl rfl)
theorem dX1_openOnes_47 : decode cX1_openOnes 47 = .ok (.iload_n 2, 1) := dk_28 (dk_at dksX1_openOnes_1 23 rfl rfl)
theorem dX1_openOnes_48 : decode cX1_openOnes 48 = .ok (.ishl, 1) := dk_120 (dk_at dksX1_openOnes_2 0 rfl rfl)
theorem dX1_openOnes_49 : decode cX1_openOnes 49 = .ok (.goto 4, 3) := dk_167 0 4 (dk_at dksX1_openOnes_2 1 rfl rfl)
theorem dX1_openOnes_52 : decode cX1_openOnes 52 = .ok (.iconst 0, 1) := dk_3 (dk_at dksX1_openOnes_2 4 rfl rfl)
theorem dX1_openOnes_53 : decode cX1_openOnes 53 = .ok (.ior, 1) := dk_128 (dk_at dksX1_openOnes_2 5 rfl rfl)
theorem dX1_openOnes_54 : decode cX1_openOnes 54 = .ok (.istore_n 1, 1) := dk_60 (dk_at dksX1_openOnes_2 6 rfl rfl)
theorem dX1_openOnes_55 : decode cX1_openOnes 55 = .ok (.iinc 2 1, 3) := dk_132 2 1 (dk_at dksX1_openOnes_2 7 rfl rfl)
theorem dX1_openOnes_58 : decode cX1_openOnes 58 = .ok (.goto (-54), 3) := dk_167 255 202 (dk_at dksX1_openOnes_2 10 rfl rfl)
theorem dX1_openOnes_61 : decode cX1_openOnes 61 = .ok (.iload_n 1, 1) := dk_27 (dk_at dksX1_openOnes_2 13 rfl rfl)
theorem dX1_openOnes_62 : decode cX1_openOnes 62 = .ok (.ireturn, 1) := dk_172 (dk_at dksX1_openOnes_2 14 rfl rfl)
abbrev cX1_alike : ByteArray := prog_1_method_51_code
def yX1_alike : MethodName := ⟨RX1, "alike", "()Z"⟩
def dkwX1_alike_0 : List UInt8 := [42, 180, 0, 22, 180, 0, 76, 42, 180, 0, 22, 180, 0, 79, 182, 1, 97, 172]
abbrev dktX1_alike_0 : List UInt8 := dkwX1_alike_0 ++ []
theorem dksX1_alike_0 : cX1_alike.data.toList.drop 0 = dktX1_alike_0 := by decide +kernel
theorem dX1_alike_0 : decode cX1_alike 0 = .ok (.aload_n 0, 1) := dk_42 (dk_at dksX1_alike_0 0 rfl rfl)
theorem dX1_alike_1 : decode cX1_alike 1 = .ok (.getfield 22, 3) := dk_180 0 22 (dk_at dksX1_alike_0 1 rfl rfl)
theorem dX1_alike_4 : decode cX1_alike 4 = .ok (.getfield 76, 3) := dk_180 0 76 (dk_at dksX1_alike_0 4 rfl rfl)
theorem dX1_alike_7 : decode cX1_alike 7 = .ok (.aload_n 0, 1) := dk_42 (dk_at dksX1_alike_0 7 rfl rfl)
theorem dX1_alike_8 : decode cX1_alike 8 = .ok (.getfield 22, 3) := dk_180 0 22 (dk_at dksX1_alike_0 8 rfl rfl)
theorem dX1_alike_11 : decode cX1_alike 11 = .ok (.getfield 79, 3) := dk_180 0 79 (dk_at dksX1_alike_0 11 rfl rfl)
theorem dX1_alike_14 : decode cX1_alike 14 = .ok (.invokevirtual 353, 3) := dk_182 1 97 (dk_at dksX1_alike_0 14 rfl rfl)
theorem dX1_alike_17 : decode cX1_alike 17 = .ok (.ireturn, 1) := dk_172 (dk_at dksX1_alike_0 17 rfl rfl)
abbrev cX1_leaks : ByteArray := prog_1_method_53_code
def yX1_leaks : MethodName := ⟨RX1, "leaks", "()I"⟩
theorem dX1_leaks_0 : decode cX1_leaks 0 = .ok (.aload_n 0, 1) := by decide +kernel
theorem dX1_leaks_1 : decode cX1_leaks 1 = .ok (.invokevirtual 364, 3) := by decide +kernel
theorem dX1_leaks_4 : decode cX1_leaks 4 = .ok (.ireturn, 1) := by decide +kernel
abbrev cX1_leak : ByteArray := prog_1_method_52_code
def yX1_leak : MethodName := ⟨RX1, "leak", "()I"⟩
def dkwX1_leak_2 : List UInt8 := [180, 0, 45, 42, 180, 0, 49, 182, 1, 97, 154, 0, 5, 27, 172, 132, 1, 1, 167, 255, 208, 2, 172]
abbrev dktX1_leak_2 : List UInt8 := dkwX1_leak_2 ++ []
def dkwX1_leak_1 : List UInt8 := [180, 0, 22, 42, 180, 0, 45, 182, 1, 101, 42, 180, 0, 22, 42, 180, 0, 49, 182, 1, 105, 61, 42]
abbrev dktX1_leak_1 : List UInt8 := dkwX1_leak_1 ++ dktX1_leak_2
def dkwX1_leak_0 : List UInt8 := [42, 180, 0, 22, 42, 180, 0, 45, 42, 180, 0, 49, 182, 0, 82, 4, 60, 27, 16, 60, 163, 0, 48, 42]
abbrev dktX1_leak_0 : List UInt8 := dkwX1_leak_0 ++ dktX1_leak_1
theorem dksX1_leak_0 : cX1_leak.data.toList.drop 0 = dktX1_leak_0 := by decide +kernel
theorem dksX1_leak_1 : cX1_leak.data.toList.drop 24 = dktX1_leak_1 := dk_seg dksX1_leak_0 24 rfl rfl
theorem dksX1_leak_2 : cX1_leak.data.toList.drop 47 = dktX1_leak_2 := dk_seg dksX1_leak_1 23 rfl rfl
theorem dX1_leak_0 : decode cX1_leak 0 = .ok (.aload_n 0, 1) := dk_42 (dk_at dksX1_leak_0 0 rfl rfl)
theorem dX1_leak_1 : decode cX1_leak 1 = .ok (.getfield 22, 3) := dk_180 0 22 (dk_at dksX1_leak_0 1 rfl rfl)
theorem dX1_leak_4 : decode cX1_leak 4 = .ok (.aload_n 0, 1) := dk_42 (dk_at dksX1_leak_0 4 rfl rfl)
theorem dX1_leak_5 : decode cX1_leak 5 = .ok (.getfield 45, 3) := dk_180 0 45 (dk_at dksX1_leak_0 5 rfl rfl)
theorem dX1_leak_8 : decode cX1_leak 8 = .ok (.aload_n 0, 1) := dk_42 (dk_at dksX1_leak_0 8 rfl rfl)
theorem dX1_leak_9 : decode cX1_leak 9 = .ok (.getfield 49, 3) := dk_180 0 49 (dk_at dksX1_leak_0 9 rfl rfl)
theorem dX1_leak_12 : decode cX1_leak 12 = .ok (.invokevirtual 82, 3) := dk_182 0 82 (dk_at dksX1_leak_0 12 rfl rfl)
theorem dX1_leak_15 : decode cX1_leak 15 = .ok (.iconst 1, 1) := dk_4 (dk_at dksX1_leak_0 15 rfl rfl)
theorem dX1_leak_16 : decode cX1_leak 16 = .ok (.istore_n 1, 1) := dk_60 (dk_at dksX1_leak_0 16 rfl rfl)
theorem dX1_leak_17 : decode cX1_leak 17 = .ok (.iload_n 1, 1) := dk_27 (dk_at dksX1_leak_0 17 rfl rfl)
theorem dX1_leak_18 : decode cX1_leak 18 = .ok (.bipush 60, 2) := dk_16 60 (dk_at dksX1_leak_0 18 rfl rfl)
theorem dX1_leak_20 : decode cX1_leak 20 = .ok (.if_icmp .gt 48, 3) := dk_163 0 48 (dk_at dksX1_leak_0 20 rfl rfl)
theorem dX1_leak_23 : decode cX1_leak 23 = .ok (.aload_n 0, 1) := dk_42 (dk_at dksX1_leak_0 23 rfl rfl)
theorem dX1_leak_24 : decode cX1_leak 24 = .ok (.getfield 22, 3) := dk_180 0 22 (dk_at dksX1_leak_1 0 rfl rfl)
theorem dX1_leak_27 : decode cX1_leak 27 = .ok (.aload_n 0, 1) := dk_42 (dk_at dksX1_leak_1 3 rfl rfl)
theorem dX1_leak_28 : decode cX1_leak 28 = .ok (.getfield 45, 3) := dk_180 0 45 (dk_at dksX1_leak_1 4 rfl rfl)
theorem dX1_leak_31 : decode cX1_leak 31 = .ok (.invokevirtual 357, 3) := dk_182 1 101 (dk_at dksX1_leak_1 7 rfl rfl)
theorem dX1_leak_34 : decode cX1_leak 34 = .ok (.aload_n 0, 1) := dk_42 (dk_at dksX1_leak_1 10 rfl rfl)
theorem dX1_leak_35 : decode cX1_leak 35 = .ok (.getfield 22, 3) := dk_180 0 22 (dk_at dksX1_leak_1 11 rfl rfl)
theorem dX1_leak_38 : decode cX1_leak 38 = .ok (.aload_n 0, 1) := dk_42 (dk_at dksX1_leak_1 14 rfl rfl)
theorem dX1_leak_39 : decode cX1_leak 39 = .ok (.getfield 49, 3) := dk_180 0 49 (dk_at dksX1_leak_1 15 rfl rfl)
theorem dX1_leak_42 : decode cX1_leak 42 = .ok (.invokevirtual 361, 3) := dk_182 1 105 (dk_at dksX1_leak_1 18 rfl rfl)
theorem dX1_leak_45 : decode cX1_leak 45 = .ok (.istore_n 2, 1) := dk_61 (dk_at dksX1_leak_1 21 rfl rfl)
theorem dX1_leak_46 : decode cX1_leak 46 = .ok (.aload_n 0, 1) := dk_42 (dk_at dksX1_leak_1 22 rfl rfl)
theorem dX1_leak_47 : decode cX1_leak 47 = .ok (.getfield 45, 3) := dk_180 0 45 (dk_at dksX1_leak_2 0 rfl rfl)
theorem dX1_leak_50 : decode cX1_leak 50 = .ok (.aload_n 0, 1) := dk_42 (dk_at dksX1_leak_2 3 rfl rfl)
theorem dX1_leak_51 : decode cX1_leak 51 = .ok (.getfield 49, 3) := dk_180 0 49 (dk_at dksX1_leak_2 4 rfl rfl)
theorem dX1_leak_54 : decode cX1_leak 54 = .ok (.invokevirtual 353, 3) := dk_182 1 97 (dk_at dksX1_leak_2 7 rfl rfl)
theorem dX1_leak_57 : decode cX1_leak 57 = .ok (.ifCond .ne 5, 3) := dk_154 0 5 (dk_at dksX1_leak_2 10 rfl rfl)
theorem dX1_leak_60 : decode cX1_leak 60 = .ok (.iload_n 1, 1) := dk_27 (dk_at dksX1_leak_2 13 rfl rfl)
theorem dX1_leak_61 : decode cX1_leak 61 = .ok (.ireturn, 1) := dk_172 (dk_at dksX1_leak_2 14 rfl rfl)
theorem dX1_leak_62 : decode cX1_leak 62 = .ok (.iinc 1 1, 3) := dk_132 1 1 (dk_at dksX1_leak_2 15 rfl rfl)
theorem dX1_leak_65 : decode cX1_leak 65 = .ok (.goto (-48), 3) := dk_167 255 208 (dk_at dksX1_leak_2 18 rfl rfl)
theorem dX1_leak_68 : decode cX1_leak 68 = .ok (.iconst (-1), 1) := dk_2 (dk_at dksX1_leak_2 21 rfl rfl)
theorem dX1_leak_69 : decode cX1_leak 69 = .ok (.ireturn, 1) := dk_172 (dk_at dksX1_leak_2 22 rfl rfl)
abbrev cX1_least : ByteArray := prog_1_method_57_code
def yX1_least : MethodName := ⟨RX1, "least", "()I"⟩
def dkwX1_least_2 : List UInt8 := [167, 255, 219, 27, 172]
abbrev dktX1_least_2 : List UInt8 := dkwX1_least_2 ++ []
def dkwX1_least_1 : List UInt8 := [180, 0, 112, 28, 50, 180, 0, 253, 153, 0, 11, 27, 4, 28, 120, 2, 130, 126, 60, 132, 2, 1]
abbrev dktX1_least_1 : List UInt8 := dkwX1_least_1 ++ dktX1_least_2
def dkwX1_least_0 : List UInt8 := [42, 182, 1, 94, 60, 3, 61, 28, 42, 180, 0, 22, 180, 0, 101, 162, 0, 32, 42, 180, 0, 22]
abbrev dktX1_least_0 : List UInt8 := dkwX1_least_0 ++ dktX1_least_1
theorem dksX1_least_0 : cX1_least.data.toList.drop 0 = dktX1_least_0 := by decide +kernel
theorem dksX1_least_1 : cX1_least.data.toList.drop 22 = dktX1_least_1 := dk_seg dksX1_least_0 22 rfl rfl
theorem dksX1_least_2 : cX1_least.data.toList.drop 44 = dktX1_least_2 := dk_seg dksX1_least_1 22 rfl rfl
theorem dX1_least_0 : decode cX1_least 0 = .ok (.aload_n 0, 1) := dk_42 (dk_at dksX1_least_0 0 rfl rfl)
theorem dX1_least_1 : decode cX1_least 1 = .ok (.invokevirtual 350, 3) := dk_182 1 94 (dk_at dksX1_least_0 1 rfl rfl)
theorem dX1_least_4 : decode cX1_least 4 = .ok (.istore_n 1, 1) := dk_60 (dk_at dksX1_least_0 4 rfl rfl)
theorem dX1_least_5 : decode cX1_least 5 = .ok (.iconst 0, 1) := dk_3 (dk_at dksX1_least_0 5 rfl rfl)
theorem dX1_least_6 : decode cX1_least 6 = .ok (.istore_n 2, 1) := dk_61 (dk_at dksX1_least_0 6 rfl rfl)
theorem dX1_least_7 : decode cX1_least 7 = .ok (.iload_n 2, 1) := dk_28 (dk_at dksX1_least_0 7 rfl rfl)
theorem dX1_least_8 : decode cX1_least 8 = .ok (.aload_n 0, 1) := dk_42 (dk_at dksX1_least_0 8 rfl rfl)
theorem dX1_least_9 : decode cX1_least 9 = .ok (.getfield 22, 3) := dk_180 0 22 (dk_at dksX1_least_0 9 rfl rfl)
theorem dX1_least_12 : decode cX1_least 12 = .ok (.getfield 101, 3) := dk_180 0 101 (dk_at dksX1_least_0 12 rfl rfl)
theorem dX1_least_15 : decode cX1_least 15 = .ok (.if_icmp .ge 32, 3) := dk_162 0 32 (dk_at dksX1_least_0 15 rfl rfl)
theorem dX1_least_18 : decode cX1_least 18 = .ok (.aload_n 0, 1) := dk_42 (dk_at dksX1_least_0 18 rfl rfl)
theorem dX1_least_19 : decode cX1_least 19 = .ok (.getfield 22, 3) := dk_180 0 22 (dk_at dksX1_least_0 19 rfl rfl)
theorem dX1_least_22 : decode cX1_least 22 = .ok (.getfield 112, 3) := dk_180 0 112 (dk_at dksX1_least_1 0 rfl rfl)
theorem dX1_least_25 : decode cX1_least 25 = .ok (.iload_n 2, 1) := dk_28 (dk_at dksX1_least_1 3 rfl rfl)
theorem dX1_least_26 : decode cX1_least 26 = .ok (.aaload, 1) := dk_50 (dk_at dksX1_least_1 4 rfl rfl)
theorem dX1_least_27 : decode cX1_least 27 = .ok (.getfield 253, 3) := dk_180 0 253 (dk_at dksX1_least_1 5 rfl rfl)
theorem dX1_least_30 : decode cX1_least 30 = .ok (.ifCond .eq 11, 3) := dk_153 0 11 (dk_at dksX1_least_1 8 rfl rfl)
theorem dX1_least_33 : decode cX1_least 33 = .ok (.iload_n 1, 1) := dk_27 (dk_at dksX1_least_1 11 rfl rfl)
theorem dX1_least_34 : decode cX1_least 34 = .ok (.iconst 1, 1) := dk_4 (dk_at dksX1_least_1 12 rfl rfl)
theorem dX1_least_35 : decode cX1_least 35 = .ok (.iload_n 2, 1) := dk_28 (dk_at dksX1_least_1 13 rfl rfl)
theorem dX1_least_36 : decode cX1_least 36 = .ok (.ishl, 1) := dk_120 (dk_at dksX1_least_1 14 rfl rfl)
theorem dX1_least_37 : decode cX1_least 37 = .ok (.iconst (-1), 1) := dk_2 (dk_at dksX1_least_1 15 rfl rfl)
theorem dX1_least_38 : decode cX1_least 38 = .ok (.ixor, 1) := dk_130 (dk_at dksX1_least_1 16 rfl rfl)
theorem dX1_least_39 : decode cX1_least 39 = .ok (.iand, 1) := dk_126 (dk_at dksX1_least_1 17 rfl rfl)
theorem dX1_least_40 : decode cX1_least 40 = .ok (.istore_n 1, 1) := dk_60 (dk_at dksX1_least_1 18 rfl rfl)
theorem dX1_least_41 : decode cX1_least 41 = .ok (.iinc 2 1, 3) := dk_132 2 1 (dk_at dksX1_least_1 19 rfl rfl)
theorem dX1_least_44 : decode cX1_least 44 = .ok (.goto (-37), 3) := dk_167 255 219 (dk_at dksX1_least_2 0 rfl rfl)
theorem dX1_least_47 : decode cX1_least 47 = .ok (.iload_n 1, 1) := dk_27 (dk_at dksX1_least_2 3 rfl rfl)
theorem dX1_least_48 : decode cX1_least 48 = .ok (.ireturn, 1) := dk_172 (dk_at dksX1_least_2 4 rfl rfl)
abbrev cX1_proof : ByteArray := prog_1_method_59_code
def yX1_proof : MethodName := ⟨RX1, "proof", "()I"⟩
def dkwX1_proof_4 : List UInt8 := [3, 16, 10, 184, 0, 177, 42, 180, 0, 22, 27, 181, 1, 16, 28, 172]
abbrev dktX1_proof_4 : List UInt8 := dkwX1_proof_4 ++ []
def dkwX1_proof_3 : List UInt8 := [29, 104, 21, 4, 96, 61, 132, 3, 1, 167, 255, 216, 42, 180, 0, 59, 3, 42, 180, 0, 22, 180, 1, 37]
abbrev dktX1_proof_3 : List UInt8 := dkwX1_proof_3 ++ dktX1_proof_4
def dkwX1_proof_2 : List UInt8 := [160, 0, 36, 42, 29, 3, 182, 1, 122, 54, 4, 21, 4, 2, 160, 0, 7, 2, 167, 0, 11, 17, 3, 232]
abbrev dktX1_proof_2 : List UInt8 := dkwX1_proof_2 ++ dktX1_proof_3
def dkwX1_proof_1 : List UInt8 := [184, 0, 177, 42, 180, 0, 22, 3, 181, 1, 16, 2, 61, 4, 62, 29, 6, 163, 0, 41, 28, 2]
abbrev dktX1_proof_1 : List UInt8 := dkwX1_proof_1 ++ dktX1_proof_2
def dkwX1_proof_0 : List UInt8 := [42, 180, 0, 22, 180, 1, 16, 60, 42, 180, 0, 22, 180, 1, 37, 3, 42, 180, 0, 59, 3, 16, 10]
abbrev dktX1_proof_0 : List UInt8 := dkwX1_proof_0 ++ dktX1_proof_1
theorem dksX1_proof_0 : cX1_proof.data.toList.drop 0 = dktX1_proof_0 := by decide +kernel
theorem dksX1_proof_1 : cX1_proof.data.toList.drop 23 = dktX1_proof_1 := dk_seg dksX1_proof_0 23 rfl rfl
theorem dksX1_proof_2 : cX1_proof.data.toList.drop 45 = dktX1_proof_2 := dk_seg dksX1_proof_1 22 rfl rfl
theorem dksX1_proof_3 : cX1_proof.data.toList.drop 69 = dktX1_proof_3 := dk_seg dksX1_proof_2 24 rfl rfl
theorem dksX1_proof_4 : cX1_proof.data.toList.drop 93 = dktX1_proof_4 := dk_seg dksX1_proof_3 24 rfl rfl
theorem dX1_proof_0 : decode cX1_proof 0 = .ok (.aload_n 0, 1) := dk_42 (dk_at dksX1_proof_0 0 rfl rfl)
theorem dX1_proof_1 : decode cX1_proof 1 = .ok (.getfield 22, 3) := dk_180 0 22 (dk_at dksX1_proof_0 1 rfl rfl)
theorem dX1_proof_4 : decode cX1_proof 4 = .ok (.getfield 272, 3) := dk_180 1 16 (dk_at dksX1_proof_0 4 rfl rfl)
theorem dX1_proof_7 : decode cX1_proof 7 = .ok (.istore_n 1, 1) := dk_60 (dk_at dksX1_proof_0 7 rfl rfl)
theorem dX1_proof_8 : decode cX1_proof 8 = .ok (.aload_n 0, 1) := dk_42 (dk_at dksX1_proof_0 8 rfl rfl)
theorem dX1_proof_9 : decode cX1_proof 9 = .ok (.getfield 22, 3) := dk_180 0 22 (dk_at dksX1_proof_0 9 rfl rfl)
theorem dX1_proof_12 : decode cX1_proof 12 = .ok (.getfield 293, 3) := dk_180 1 37 (dk_at dksX1_proof_0 12 rfl rfl)
theorem dX1_proof_15 : decode cX1_proof 15 = .ok (.iconst 0, 1) := dk_3 (dk_at dksX1_proof_0 15 rfl rfl)
theorem dX1_proof_16 : decode cX1_proof 16 = .ok (.aload_n 0, 1) := dk_42 (dk_at dksX1_proof_0 16 rfl rfl)
theorem dX1_proof_17 : decode cX1_proof 17 = .ok (.getfield 59, 3) := dk_180 0 59 (dk_at dksX1_proof_0 17 rfl rfl)
theorem dX1_proof_20 : decode cX1_proof 20 = .ok (.iconst 0, 1) := dk_3 (dk_at dksX1_proof_0 20 rfl rfl)
theorem dX1_proof_21 : decode cX1_proof 21 = .ok (.bipush 10, 2) := dk_16 10 (dk_at dksX1_proof_0 21 rfl rfl)
theorem dX1_proof_23 : decode cX1_proof 23 = .ok (.invokestatic 177, 3) := dk_184 0 177 (dk_at dksX1_proof_1 0 rfl rfl)
theorem dX1_proof_26 : decode cX1_proof 26 = .ok (.aload_n 0, 1) := dk_42 (dk_at dksX1_proof_1 3 rfl rfl)
theorem dX1_proof_27 : decode cX1_proof 27 = .ok (.getfield 22, 3) := dk_180 0 22 (dk_at dksX1_proof_1 4 rfl rfl)
theorem dX1_proof_30 : decode cX1_proof 30 = .ok (.iconst 0, 1) := dk_3 (dk_at dksX1_proof_1 7 rfl rfl)
theorem dX1_proof_31 : decode cX1_proof 31 = .ok (.putfield 272, 3) := dk_181 1 16 (dk_at dksX1_proof_1 8 rfl rfl)
theorem dX1_proof_34 : decode cX1_proof 34 = .ok (.iconst (-1), 1) := dk_2 (dk_at dksX1_proof_1 11 rfl rfl)
theorem dX1_proof_35 : decode cX1_proof 35 = .ok (.istore_n 2, 1) := dk_61 (dk_at dksX1_proof_1 12 rfl rfl)
theorem dX1_proof_36 : decode cX1_proof 36 = .ok (.iconst 1, 1) := dk_4 (dk_at dksX1_proof_1 13 rfl rfl)
theorem dX1_proof_37 : decode cX1_proof 37 = .ok (.istore_n 3, 1) := dk_62 (dk_at dksX1_proof_1 14 rfl rfl)
theorem dX1_proof_38 : decode cX1_proof 38 = .ok (.iload_n 3, 1) := dk_29 (dk_at dksX1_proof_1 15 rfl rfl)
theorem dX1_proof_39 : decode cX1_proof 39 = .ok (.iconst 3, 1) := dk_6 (dk_at dksX1_proof_1 16 rfl rfl)
theorem dX1_proof_40 : decode cX1_proof 40 = .ok (.if_icmp .gt 41, 3) := dk_163 0 41 (dk_at dksX1_proof_1 17 rfl rfl)
theorem dX1_proof_43 : decode cX1_proof 43 = .ok (.iload_n 2, 1) := dk_28 (dk_at dksX1_proof_1 20 rfl rfl)
theorem dX1_proof_44 : decode cX1_proof 44 = .ok (.iconst (-1), 1) := dk_2 (dk_at dksX1_proof_1 21 rfl rfl)
theorem dX1_proof_45 : decode cX1_proof 45 = .ok (.if_icmp .ne 36, 3) := dk_160 0 36 (dk_at dksX1_proof_2 0 rfl rfl)
theorem dX1_proof_48 : decode cX1_proof 48 = .ok (.aload_n 0, 1) := dk_42 (dk_at dksX1_proof_2 3 rfl rfl)
theorem dX1_proof_49 : decode cX1_proof 49 = .ok (.iload_n 3, 1) := dk_29 (dk_at dksX1_proof_2 4 rfl rfl)
theorem dX1_proof_50 : decode cX1_proof 50 = .ok (.iconst 0, 1) := dk_3 (dk_at dksX1_proof_2 5 rfl rfl)
theorem dX1_proof_51 : decode cX1_proof 51 = .ok (.invokevirtual 378, 3) := dk_182 1 122 (dk_at dksX1_proof_2 6 rfl rfl)
theorem dX1_proof_54 : decode cX1_proof 54 = .ok (.istore 4, 2) := dk_54 4 (dk_at dksX1_proof_2 9 rfl rfl)
theorem dX1_proof_56 : decode cX1_proof 56 = .ok (.iload 4, 2) := dk_21 4 (dk_at dksX1_proof_2 11 rfl rfl)
theorem dX1_proof_58 : decode cX1_proof 58 = .ok (.iconst (-1), 1) := dk_2 (dk_at dksX1_proof_2 13 rfl rfl)
theorem dX1_proof_59 : decode cX1_proof 59 = .ok (.if_icmp .ne 7, 3) := dk_160 0 7 (dk_at dksX1_proof_2 14 rfl rfl)
theorem dX1_proof_62 : decode cX1_proof 62 = .ok (.iconst (-1), 1) := dk_2 (dk_at dksX1_proof_2 17 rfl rfl)
theorem dX1_proof_63 : decode cX1_proof 63 = .ok (.goto 11, 3) := dk_167 0 11 (dk_at dksX1_proof_2 18 rfl rfl)
theorem dX1_proof_66 : decode cX1_proof 66 = .ok (.sipush 1000, 3) := dk_17 3 232 (dk_at dksX1_proof_2 21 rfl rfl)
theorem dX1_proof_69 : decode cX1_proof 69 = .ok (.iload_n 3, 1) := dk_29 (dk_at dksX1_proof_3 0 rfl rfl)
theorem dX1_proof_70 : decode cX1_proof 70 = .ok (.imul, 1) := dk_104 (dk_at dksX1_proof_3 1 rfl rfl)
theorem dX1_proof_71 : decode cX1_proof 71 = .ok (.iload 4, 2) := dk_21 4 (dk_at dksX1_proof_3 2 rfl rfl)
theorem dX1_proof_73 : decode cX1_proof 73 = .ok (.iadd, 1) := dk_96 (dk_at dksX1_proof_3 4 rfl rfl)
theorem dX1_proof_74 : decode cX1_proof 74 = .ok (.istore_n 2, 1) := dk_61 (dk_at dksX1_proof_3 5 rfl rfl)
theorem dX1_proof_75 : decode cX1_proof 75 = .ok (.iinc 3 1, 3) := dk_132 3 1 (dk_at dksX1_proof_3 6 rfl rfl)
theorem dX1_proof_78 : decode cX1_proof 78 = .ok (.goto (-40), 3) := dk_167 255 216 (dk_at dksX1_proof_3 9 rfl rfl)
theorem dX1_proof_81 : decode cX1_proof 81 = .ok (.aload_n 0, 1) := dk_42 (dk_at dksX1_proof_3 12 rfl rfl)
theorem dX1_proof_82 : decode cX1_proof 82 = .ok (.getfield 59, 3) := dk_180 0 59 (dk_at dksX1_proof_3 13 rfl rfl)
theorem dX1_proof_85 : decode cX1_proof 85 = .ok (.iconst 0, 1) := dk_3 (dk_at dksX1_proof_3 16 rfl rfl)
theorem dX1_proof_86 : decode cX1_proof 86 = .ok (.aload_n 0, 1) := dk_42 (dk_at dksX1_proof_3 17 rfl rfl)
theorem dX1_proof_87 : decode cX1_proof 87 = .ok (.getfield 22, 3) := dk_180 0 22 (dk_at dksX1_proof_3 18 rfl rfl)
theorem dX1_proof_90 : decode cX1_proof 90 = .ok (.getfield 293, 3) := dk_180 1 37 (dk_at dksX1_proof_3 21 rfl rfl)
theorem dX1_proof_93 : decode cX1_proof 93 = .ok (.iconst 0, 1) := dk_3 (dk_at dksX1_proof_4 0 rfl rfl)
theorem dX1_proof_94 : decode cX1_proof 94 = .ok (.bipush 10, 2) := dk_16 10 (dk_at dksX1_proof_4 1 rfl rfl)
theorem dX1_proof_96 : decode cX1_proof 96 = .ok (.invokestatic 177, 3) := dk_184 0 177 (dk_at dksX1_proof_4 3 rfl rfl)
theorem dX1_proof_99 : decode cX1_proof 99 = .ok (.aload_n 0, 1) := dk_42 (dk_at dksX1_proof_4 6 rfl rfl)
theorem dX1_proof_100 : decode cX1_proof 100 = .ok (.getfield 22, 3) := dk_180 0 22 (dk_at dksX1_proof_4 7 rfl rfl)
theorem dX1_proof_103 : decode cX1_proof 103 = .ok (.iload_n 1, 1) := dk_27 (dk_at dksX1_proof_4 10 rfl rfl)
theorem dX1_proof_104 : decode cX1_proof 104 = .ok (.putfield 272, 3) := dk_181 1 16 (dk_at dksX1_proof_4 11 rfl rfl)
theorem dX1_proof_107 : decode cX1_proof 107 = .ok (.iload_n 2, 1) := dk_28 (dk_at dksX1_proof_4 14 rfl rfl)
theorem dX1_proof_108 : decode cX1_proof 108 = .ok (.ireturn, 1) := dk_172 (dk_at dksX1_proof_4 15 rfl rfl)
abbrev cX1_proofOf : ByteArray := prog_1_method_58_code
def yX1_proofOf : MethodName := ⟨RX1, "proofOf", "(II)I"⟩
def dkwX1_proofOf_4 : List UInt8 := [167, 255, 200, 42, 180, 0, 22, 89, 180, 1, 16, 4, 100, 181, 1, 16, 29, 172]
abbrev dktX1_proofOf_4 : List UInt8 := dkwX1_proofOf_4 ++ []
def dkwX1_proofOf_3 : List UInt8 := [21, 4, 79, 42, 27, 4, 100, 16, 10, 28, 104, 21, 4, 96, 4, 96, 182, 1, 122, 62, 132, 4, 1]
abbrev dktX1_proofOf_3 : List UInt8 := dkwX1_proofOf_3 ++ dktX1_proofOf_4
def dkwX1_proofOf_2 : List UInt8 := [162, 0, 50, 29, 2, 160, 0, 45, 42, 180, 0, 22, 180, 1, 37, 42, 180, 0, 22, 180, 1, 16, 4, 100]
abbrev dktX1_proofOf_2 : List UInt8 := dkwX1_proofOf_2 ++ dktX1_proofOf_3
def dkwX1_proofOf_1 : List UInt8 := [180, 1, 16, 4, 96, 181, 1, 16, 2, 62, 3, 54, 4, 21, 4, 42, 180, 0, 22, 180, 0, 101]
abbrev dktX1_proofOf_1 : List UInt8 := dkwX1_proofOf_1 ++ dktX1_proofOf_2
def dkwX1_proofOf_0 : List UInt8 := [27, 154, 0, 17, 42, 182, 1, 108, 2, 160, 0, 7, 2, 167, 0, 4, 28, 172, 42, 180, 0, 22, 89]
abbrev dktX1_proofOf_0 : List UInt8 := dkwX1_proofOf_0 ++ dktX1_proofOf_1
theorem dksX1_proofOf_0 : cX1_proofOf.data.toList.drop 0 = dktX1_proofOf_0 := by decide +kernel
theorem dksX1_proofOf_1 : cX1_proofOf.data.toList.drop 23 = dktX1_proofOf_1 := dk_seg dksX1_proofOf_0 23 rfl rfl
theorem dksX1_proofOf_2 : cX1_proofOf.data.toList.drop 45 = dktX1_proofOf_2 := dk_seg dksX1_proofOf_1 22 rfl rfl
theorem dksX1_proofOf_3 : cX1_proofOf.data.toList.drop 69 = dktX1_proofOf_3 := dk_seg dksX1_proofOf_2 24 rfl rfl
theorem dksX1_proofOf_4 : cX1_proofOf.data.toList.drop 92 = dktX1_proofOf_4 := dk_seg dksX1_proofOf_3 23 rfl rfl
theorem dX1_proofOf_0 : decode cX1_proofOf 0 = .ok (.iload_n 1, 1) := dk_27 (dk_at dksX1_proofOf_0 0 rfl rfl)
theorem dX1_proofOf_1 : decode cX1_proofOf 1 = .ok (.ifCond .ne 17, 3) := dk_154 0 17 (dk_at dksX1_proofOf_0 1 rfl rfl)
theorem dX1_proofOf_4 : decode cX1_proofOf 4 = .ok (.aload_n 0, 1) := dk_42 (dk_at dksX1_proofOf_0 4 rfl rfl)
theorem dX1_proofOf_5 : decode cX1_proofOf 5 = .ok (.invokevirtual 364, 3) := dk_182 1 108 (dk_at dksX1_proofOf_0 5 rfl rfl)
theorem dX1_proofOf_8 : decode cX1_proofOf 8 = .ok (.iconst (-1), 1) := dk_2 (dk_at dksX1_proofOf_0 8 rfl rfl)
theorem dX1_proofOf_9 : decode cX1_proofOf 9 = .ok (.if_icmp .ne 7, 3) := dk_160 0 7 (dk_at dksX1_proofOf_0 9 rfl rfl)
theorem dX1_proofOf_12 : decode cX1_proofOf 12 = .ok (.iconst (-1), 1) := dk_2 (dk_at dksX1_proofOf_0 12 rfl rfl)
theorem dX1_proofOf_13 : decode cX1_proofOf 13 = .ok (.goto 4, 3) := dk_167 0 4 (dk_at dksX1_proofOf_0 13 rfl rfl)
theorem dX1_proofOf_16 : decode cX1_proofOf 16 = .ok (.iload_n 2, 1) := dk_28 (dk_at dksX1_proofOf_0 16 rfl rfl)
theorem dX1_proofOf_17 : decode cX1_proofOf 17 = .ok (.ireturn, 1) := dk_172 (dk_at dksX1_proofOf_0 17 rfl rfl)
theorem dX1_proofOf_18 : decode cX1_proofOf 18 = .ok (.aload_n 0, 1) := dk_42 (dk_at dksX1_proofOf_0 18 rfl rfl)
theorem dX1_proofOf_19 : decode cX1_proofOf 19 = .ok (.getfield 22, 3) := dk_180 0 22 (dk_at dksX1_proofOf_0 19 rfl rfl)
theorem dX1_proofOf_22 : decode cX1_proofOf 22 = .ok (.dup, 1) := dk_89 (dk_at dksX1_proofOf_0 22 rfl rfl)
theorem dX1_proofOf_23 : decode cX1_proofOf 23 = .ok (.getfield 272, 3) := dk_180 1 16 (dk_at dksX1_proofOf_1 0 rfl rfl)
theorem dX1_proofOf_26 : decode cX1_proofOf 26 = .ok (.iconst 1, 1) := dk_4 (dk_at dksX1_proofOf_1 3 rfl rfl)
theorem dX1_proofOf_27 : decode cX1_proofOf 27 = .ok (.iadd, 1) := dk_96 (dk_at dksX1_proofOf_1 4 rfl rfl)
theorem dX1_proofOf_28 : decode cX1_proofOf 28 = .ok (.putfield 272, 3) := dk_181 1 16 (dk_at dksX1_proofOf_1 5 rfl rfl)
theorem dX1_proofOf_31 : decode cX1_proofOf 31 = .ok (.iconst (-1), 1) := dk_2 (dk_at dksX1_proofOf_1 8 rfl rfl)
theorem dX1_proofOf_32 : decode cX1_proofOf 32 = .ok (.istore_n 3, 1) := dk_62 (dk_at dksX1_proofOf_1 9 rfl rfl)
theorem dX1_proofOf_33 : decode cX1_proofOf 33 = .ok (.iconst 0, 1) := dk_3 (dk_at dksX1_proofOf_1 10 rfl rfl)
theorem dX1_proofOf_34 : decode cX1_proofOf 34 = .ok (.istore 4, 2) := dk_54 4 (dk_at dksX1_proofOf_1 11 rfl rfl)
theorem dX1_proofOf_36 : decode cX1_proofOf 36 = .ok (.iload 4, 2) := dk_21 4 (dk_at dksX1_proofOf_1 13 rfl rfl)
theorem dX1_proofOf_38 : decode cX1_proofOf 38 = .ok (.aload_n 0, 1) := dk_42 (dk_at dksX1_proofOf_1 15 rfl rfl)
theorem dX1_proofOf_39 : decode cX1_proofOf 39 = .ok (.getfield 22, 3) := dk_180 0 22 (dk_at dksX1_proofOf_1 16 rfl rfl)
theorem dX1_proofOf_42 : decode cX1_proofOf 42 = .ok (.getfield 101, 3) := dk_180 0 101 (dk_at dksX1_proofOf_1 19 rfl rfl)
theorem dX1_proofOf_45 : decode cX1_proofOf 45 = .ok (.if_icmp .ge 50, 3) := dk_162 0 50 (dk_at dksX1_proofOf_2 0 rfl rfl)
theorem dX1_proofOf_48 : decode cX1_proofOf 48 = .ok (.iload_n 3, 1) := dk_29 (dk_at dksX1_proofOf_2 3 rfl rfl)
theorem dX1_proofOf_49 : decode cX1_proofOf 49 = .ok (.iconst (-1), 1) := dk_2 (dk_at dksX1_proofOf_2 4 rfl rfl)
theorem dX1_proofOf_50 : decode cX1_proofOf 50 = .ok (.if_icmp .ne 45, 3) := dk_160 0 45 (dk_at dksX1_proofOf_2 5 rfl rfl)
theorem dX1_proofOf_53 : decode cX1_proofOf 53 = .ok (.aload_n 0, 1) := dk_42 (dk_at dksX1_proofOf_2 8 rfl rfl)
theorem dX1_proofOf_54 : decode cX1_proofOf 54 = .ok (.getfield 22, 3) := dk_180 0 22 (dk_at dksX1_proofOf_2 9 rfl rfl)
theorem dX1_proofOf_57 : decode cX1_proofOf 57 = .ok (.getfield 293, 3) := dk_180 1 37 (dk_at dksX1_proofOf_2 12 rfl rfl)
theorem dX1_proofOf_60 : decode cX1_proofOf 60 = .ok (.aload_n 0, 1) := dk_42 (dk_at dksX1_proofOf_2 15 rfl rfl)
theorem dX1_proofOf_61 : decode cX1_proofOf 61 = .ok (.getfield 22, 3) := dk_180 0 22 (dk_at dksX1_proofOf_2 16 rfl rfl)
theorem dX1_proofOf_64 : decode cX1_proofOf 64 = .ok (.getfield 272, 3) := dk_180 1 16 (dk_at dksX1_proofOf_2 19 rfl rfl)
theorem dX1_proofOf_67 : decode cX1_proofOf 67 = .ok (.iconst 1, 1) := dk_4 (dk_at dksX1_proofOf_2 22 rfl rfl)
theorem dX1_proofOf_68 : decode cX1_proofOf 68 = .ok (.isub, 1) := dk_100 (dk_at dksX1_proofOf_2 23 rfl rfl)
theorem dX1_proofOf_69 : decode cX1_proofOf 69 = .ok (.iload 4, 2) := dk_21 4 (dk_at dksX1_proofOf_3 0 rfl rfl)
theorem dX1_proofOf_71 : decode cX1_proofOf 71 = .ok (.iastore, 1) := dk_79 (dk_at dksX1_proofOf_3 2 rfl rfl)
theorem dX1_proofOf_72 : decode cX1_proofOf 72 = .ok (.aload_n 0, 1) := dk_42 (dk_at dksX1_proofOf_3 3 rfl rfl)
theorem dX1_proofOf_73 : decode cX1_proofOf 73 = .ok (.iload_n 1, 1) := dk_27 (dk_at dksX1_proofOf_3 4 rfl rfl)
theorem dX1_proofOf_74 : decode cX1_proofOf 74 = .ok (.iconst 1, 1) := dk_4 (dk_at dksX1_proofOf_3 5 rfl rfl)
theorem dX1_proofOf_75 : decode cX1_proofOf 75 = .ok (.isub, 1) := dk_100 (dk_at dksX1_proofOf_3 6 rfl rfl)
theorem dX1_proofOf_76 : decode cX1_proofOf 76 = .ok (.bipush 10, 2) := dk_16 10 (dk_at dksX1_proofOf_3 7 rfl rfl)
theorem dX1_proofOf_78 : decode cX1_proofOf 78 = .ok (.iload_n 2, 1) := dk_28 (dk_at dksX1_proofOf_3 9 rfl rfl)
theorem dX1_proofOf_79 : decode cX1_proofOf 79 = .ok (.imul, 1) := dk_104 (dk_at dksX1_proofOf_3 10 rfl rfl)
theorem dX1_proofOf_80 : decode cX1_proofOf 80 = .ok (.iload 4, 2) := dk_21 4 (dk_at dksX1_proofOf_3 11 rfl rfl)
theorem dX1_proofOf_82 : decode cX1_proofOf 82 = .ok (.iadd, 1) := dk_96 (dk_at dksX1_proofOf_3 13 rfl rfl)
theorem dX1_proofOf_83 : decode cX1_proofOf 83 = .ok (.iconst 1, 1) := dk_4 (dk_at dksX1_proofOf_3 14 rfl rfl)
theorem dX1_proofOf_84 : decode cX1_proofOf 84 = .ok (.iadd, 1) := dk_96 (dk_at dksX1_proofOf_3 15 rfl rfl)
theorem dX1_proofOf_85 : decode cX1_proofOf 85 = .ok (.invokevirtual 378, 3) := dk_182 1 122 (dk_at dksX1_proofOf_3 16 rfl rfl)
theorem dX1_proofOf_88 : decode cX1_proofOf 88 = .ok (.istore_n 3, 1) := dk_62 (dk_at dksX1_proofOf_3 19 rfl rfl)
theorem dX1_proofOf_89 : decode cX1_proofOf 89 = .ok (.iinc 4 1, 3) := dk_132 4 1 (dk_at dksX1_proofOf_3 20 rfl rfl)
theorem dX1_proofOf_92 : decode cX1_proofOf 92 = .ok (.goto (-56), 3) := dk_167 255 200 (dk_at dksX1_proofOf_4 0 rfl rfl)
theorem dX1_proofOf_95 : decode cX1_proofOf 95 = .ok (.aload_n 0, 1) := dk_42 (dk_at dksX1_proofOf_4 3 rfl rfl)
theorem dX1_proofOf_96 : decode cX1_proofOf 96 = .ok (.getfield 22, 3) := dk_180 0 22 (dk_at dksX1_proofOf_4 4 rfl rfl)
theorem dX1_proofOf_99 : decode cX1_proofOf 99 = .ok (.dup, 1) := dk_89 (dk_at dksX1_proofOf_4 7 rfl rfl)
theorem dX1_proofOf_100 : decode cX1_proofOf 100 = .ok (.getfield 272, 3) := dk_180 1 16 (dk_at dksX1_proofOf_4 8 rfl rfl)
theorem dX1_proofOf_103 : decode cX1_proofOf 103 = .ok (.iconst 1, 1) := dk_4 (dk_at dksX1_proofOf_4 11 rfl rfl)
theorem dX1_proofOf_104 : decode cX1_proofOf 104 = .ok (.isub, 1) := dk_100 (dk_at dksX1_proofOf_4 12 rfl rfl)
theorem dX1_proofOf_105 : decode cX1_proofOf 105 = .ok (.putfield 272, 3) := dk_181 1 16 (dk_at dksX1_proofOf_4 13 rfl rfl)
theorem dX1_proofOf_108 : decode cX1_proofOf 108 = .ok (.iload_n 3, 1) := dk_29 (dk_at dksX1_proofOf_4 16 rfl rfl)
theorem dX1_proofOf_109 : decode cX1_proofOf 109 = .ok (.ireturn, 1) := dk_172 (dk_at dksX1_proofOf_4 17 rfl rfl)
abbrev cX1_beside : ByteArray := prog_1_method_62_code
def yX1_beside : MethodName := ⟨RX1, "beside", "()I"⟩
def dkwX1_beside_5 : List UInt8 := [167, 255, 143, 27, 172]
abbrev dktX1_beside_5 : List UInt8 := dkwX1_beside_5 ++ []
def dkwX1_beside_4 : List UInt8 := [3, 126, 62, 132, 5, 1, 167, 255, 213, 132, 4, 1, 167, 255, 188, 29, 153, 0, 5, 28, 60, 132, 2, 1]
abbrev dktX1_beside_4 : List UInt8 := dkwX1_beside_4 ++ dktX1_beside_5
def dkwX1_beside_3 : List UInt8 := [21, 5, 122, 126, 4, 126, 153, 0, 14, 42, 21, 4, 21, 5, 182, 1, 129, 154, 0, 7, 4, 167, 0, 4]
abbrev dktX1_beside_3 : List UInt8 := dkwX1_beside_3 ++ dktX1_beside_4
def dkwX1_beside_2 : List UInt8 := [162, 0, 62, 29, 153, 0, 58, 3, 54, 5, 21, 5, 21, 4, 162, 0, 42, 29, 28, 21, 4, 122, 28]
abbrev dktX1_beside_2 : List UInt8 := dkwX1_beside_2 ++ dktX1_beside_3
def dkwX1_beside_1 : List UInt8 := [184, 1, 132, 164, 0, 7, 4, 167, 0, 4, 3, 62, 3, 54, 4, 21, 4, 42, 180, 0, 22, 180, 0, 101]
abbrev dktX1_beside_1 : List UInt8 := dkwX1_beside_1 ++ dktX1_beside_2
def dkwX1_beside_0 : List UInt8 := [3, 60, 4, 61, 28, 4, 42, 180, 0, 22, 180, 0, 101, 120, 162, 0, 106, 28, 184, 1, 132, 27]
abbrev dktX1_beside_0 : List UInt8 := dkwX1_beside_0 ++ dktX1_beside_1
theorem dksX1_beside_0 : cX1_beside.data.toList.drop 0 = dktX1_beside_0 := by decide +kernel
theorem dksX1_beside_1 : cX1_beside.data.toList.drop 22 = dktX1_beside_1 := dk_seg dksX1_beside_0 22 rfl rfl
theorem dksX1_beside_2 : cX1_beside.data.toList.drop 46 = dktX1_beside_2 := dk_seg dksX1_beside_1 24 rfl rfl
theorem dksX1_beside_3 : cX1_beside.data.toList.drop 69 = dktX1_beside_3 := dk_seg dksX1_beside_2 23 rfl rfl
theorem dksX1_beside_4 : cX1_beside.data.toList.drop 93 = dktX1_beside_4 := dk_seg dksX1_beside_3 24 rfl rfl
theorem dksX1_beside_5 : cX1_beside.data.toList.drop 117 = dktX1_beside_5 := dk_seg dksX1_beside_4 24 rfl rfl
theorem dX1_beside_0 : decode cX1_beside 0 = .ok (.iconst 0, 1) := dk_3 (dk_at dksX1_beside_0 0 rfl rfl)
theorem dX1_beside_1 : decode cX1_beside 1 = .ok (.istore_n 1, 1) := dk_60 (dk_at dksX1_beside_0 1 rfl rfl)
theorem dX1_beside_2 : decode cX1_beside 2 = .ok (.iconst 1, 1) := dk_4 (dk_at dksX1_beside_0 2 rfl rfl)
theorem dX1_beside_3 : decode cX1_beside 3 = .ok (.istore_n 2, 1) := dk_61 (dk_at dksX1_beside_0 3 rfl rfl)
theorem dX1_beside_4 : decode cX1_beside 4 = .ok (.iload_n 2, 1) := dk_28 (dk_at dksX1_beside_0 4 rfl rfl)
theorem dX1_beside_5 : decode cX1_beside 5 = .ok (.iconst 1, 1) := dk_4 (dk_at dksX1_beside_0 5 rfl rfl)
theorem dX1_beside_6 : decode cX1_beside 6 = .ok (.aload_n 0, 1) := dk_42 (dk_at dksX1_beside_0 6 rfl rfl)
theorem dX1_beside_7 : decode cX1_beside 7 = .ok (.getfield 22, 3) := dk_180 0 22 (dk_at dksX1_beside_0 7 rfl rfl)
theorem dX1_beside_10 : decode cX1_beside 10 = .ok (.getfield 101, 3) := dk_180 0 101 (dk_at dksX1_beside_0 10 rfl rfl)
theorem dX1_beside_13 : decode cX1_beside 13 = .ok (.ishl, 1) := dk_120 (dk_at dksX1_beside_0 13 rfl rfl)
theorem dX1_beside_14 : decode cX1_beside 14 = .ok (.if_icmp .ge 106, 3) := dk_162 0 106 (dk_at dksX1_beside_0 14 rfl rfl)
theorem dX1_beside_17 : decode cX1_beside 17 = .ok (.iload_n 2, 1) := dk_28 (dk_at dksX1_beside_0 17 rfl rfl)
theorem dX1_beside_18 : decode cX1_beside 18 = .ok (.invokestatic 388, 3) := dk_184 1 132 (dk_at dksX1_beside_0 18 rfl rfl)
theorem dX1_beside_21 : decode cX1_beside 21 = .ok (.iload_n 1, 1) := dk_27 (dk_at dksX1_beside_0 21 rfl rfl)
theorem dX1_beside_22 : decode cX1_beside 22 = .ok (.invokestatic 388, 3) := dk_184 1 132 (dk_at dksX1_beside_1 0 rfl rfl)
theorem dX1_beside_25 : decode cX1_beside 25 = .ok (.if_icmp .le 7, 3) := dk_164 0 7 (dk_at dksX1_beside_1 3 rfl rfl)
theorem dX1_beside_28 : decode cX1_beside 28 = .ok (.iconst 1, 1) := dk_4 (dk_at dksX1_beside_1 6 rfl rfl)
theorem dX1_beside_29 : decode cX1_beside 29 = .ok (.goto 4, 3) := dk_167 0 4 (dk_at dksX1_beside_1 7 rfl rfl)
theorem dX1_beside_32 : decode cX1_beside 32 = .ok (.iconst 0, 1) := dk_3 (dk_at dksX1_beside_1 10 rfl rfl)
theorem dX1_beside_33 : decode cX1_beside 33 = .ok (.istore_n 3, 1) := dk_62 (dk_at dksX1_beside_1 11 rfl rfl)
theorem dX1_beside_34 : decode cX1_beside 34 = .ok (.iconst 0, 1) := dk_3 (dk_at dksX1_beside_1 12 rfl rfl)
theorem dX1_beside_35 : decode cX1_beside 35 = .ok (.istore 4, 2) := dk_54 4 (dk_at dksX1_beside_1 13 rfl rfl)
theorem dX1_beside_37 : decode cX1_beside 37 = .ok (.iload 4, 2) := dk_21 4 (dk_at dksX1_beside_1 15 rfl rfl)
theorem dX1_beside_39 : decode cX1_beside 39 = .ok (.aload_n 0, 1) := dk_42 (dk_at dksX1_beside_1 17 rfl rfl)
theorem dX1_beside_40 : decode cX1_beside 40 = .ok (.getfield 22, 3) := dk_180 0 22 (dk_at dksX1_beside_1 18 rfl rfl)
theorem dX1_beside_43 : decode cX1_beside 43 = .ok (.getfield 101, 3) := dk_180 0 101 (dk_at dksX1_beside_1 21 rfl rfl)
theorem dX1_beside_46 : decode cX1_beside 46 = .ok (.if_icmp .ge 62, 3) := dk_162 0 62 (dk_at dksX1_beside_2 0 rfl rfl)
theorem dX1_beside_49 : decode cX1_beside 49 = .ok (.iload_n 3, 1) := dk_29 (dk_at dksX1_beside_2 3 rfl rfl)
theorem dX1_beside_50 : decode cX1_beside 50 = .ok (.ifCond .eq 58, 3) := dk_153 0 58 (dk_at dksX1_beside_2 4 rfl rfl)
theorem dX1_beside_53 : decode cX1_beside 53 = .ok (.iconst 0, 1) := dk_3 (dk_at dksX1_beside_2 7 rfl rfl)
theorem dX1_beside_54 : decode cX1_beside 54 = .ok (.istore 5, 2) := dk_54 5 (dk_at dksX1_beside_2 8 rfl rfl)
theorem dX1_beside_56 : decode cX1_beside 56 = .ok (.iload 5, 2) := dk_21 5 (dk_at dksX1_beside_2 10 rfl rfl)
theorem dX1_beside_58 : decode cX1_beside 58 = .ok (.iload 4, 2) := dk_21 4 (dk_at dksX1_beside_2 12 rfl rfl)
theorem dX1_beside_60 : decode cX1_beside 60 = .ok (.if_icmp .ge 42, 3) := dk_162 0 42 (dk_at dksX1_beside_2 14 rfl rfl)
theorem dX1_beside_63 : decode cX1_beside 63 = .ok (.iload_n 3, 1) := dk_29 (dk_at dksX1_beside_2 17 rfl rfl)
theorem dX1_beside_64 : decode cX1_beside 64 = .ok (.iload_n 2, 1) := dk_28 (dk_at dksX1_beside_2 18 rfl rfl)
theorem dX1_beside_65 : decode cX1_beside 65 = .ok (.iload 4, 2) := dk_21 4 (dk_at dksX1_beside_2 19 rfl rfl)
theorem dX1_beside_67 : decode cX1_beside 67 = .ok (.ishr, 1) := dk_122 (dk_at dksX1_beside_2 21 rfl rfl)
theorem dX1_beside_68 : decode cX1_beside 68 = .ok (.iload_n 2, 1) := dk_28 (dk_at dksX1_beside_2 22 rfl rfl)
theorem dX1_beside_69 : decode cX1_beside 69 = .ok (.iload 5, 2) := dk_21 5 (dk_at dksX1_beside_3 0 rfl rfl)
theorem dX1_beside_71 : decode cX1_beside 71 = .ok (.ishr, 1) := dk_122 (dk_at dksX1_beside_3 2 rfl rfl)
theorem dX1_beside_72 : decode cX1_beside 72 = .ok (.iand, 1) := dk_126 (dk_at dksX1_beside_3 3 rfl rfl)
theorem dX1_beside_73 : decode cX1_beside 73 = .ok (.iconst 1, 1) := dk_4 (dk_at dksX1_beside_3 4 rfl rfl)
theorem dX1_beside_74 : decode cX1_beside 74 = .ok (.iand, 1) := dk_126 (dk_at dksX1_beside_3 5 rfl rfl)
theorem dX1_beside_75 : decode cX1_beside 75 = .ok (.ifCond .eq 14, 3) := dk_153 0 14 (dk_at dksX1_beside_3 6 rfl rfl)
theorem dX1_beside_78 : decode cX1_beside 78 = .ok (.aload_n 0, 1) := dk_42 (dk_at dksX1_beside_3 9 rfl rfl)
theorem dX1_beside_79 : decode cX1_beside 79 = .ok (.iload 4, 2) := dk_21 4 (dk_at dksX1_beside_3 10 rfl rfl)
theorem dX1_beside_81 : decode cX1_beside 81 = .ok (.iload 5, 2) := dk_21 5 (dk_at dksX1_beside_3 12 rfl rfl)
theorem dX1_beside_83 : decode cX1_beside 83 = .ok (.invokevirtual 385, 3) := dk_182 1 129 (dk_at dksX1_beside_3 14 rfl rfl)
theorem dX1_beside_86 : decode cX1_beside 86 = .ok (.ifCond .ne 7, 3) := dk_154 0 7 (dk_at dksX1_beside_3 17 rfl rfl)
theorem dX1_beside_89 : decode cX1_beside 89 = .ok (.iconst 1, 1) := dk_4 (dk_at dksX1_beside_3 20 rfl rfl)
theorem dX1_beside_90 : decode cX1_beside 90 = .ok (.goto 4, 3) := dk_167 0 4 (dk_at dksX1_beside_3 21 rfl rfl)
theorem dX1_beside_93 : decode cX1_beside 93 = .ok (.iconst 0, 1) := dk_3 (dk_at dksX1_beside_4 0 rfl rfl)
theorem dX1_beside_94 : decode cX1_beside 94 = .ok (.iand, 1) := dk_126 (dk_at dksX1_beside_4 1 rfl rfl)
theorem dX1_beside_95 : decode cX1_beside 95 = .ok (.istore_n 3, 1) := dk_62 (dk_at dksX1_beside_4 2 rfl rfl)
theorem dX1_beside_96 : decode cX1_beside 96 = .ok (.iinc 5 1, 3) := dk_132 5 1 (dk_at dksX1_beside_4 3 rfl rfl)
theorem dX1_beside_99 : decode cX1_beside 99 = .ok (.goto (-43), 3) := dk_167 255 213 (dk_at dksX1_beside_4 6 rfl rfl)
theorem dX1_beside_102 : decode cX1_beside 102 = .ok (.iinc 4 1, 3) := dk_132 4 1 (dk_at dksX1_beside_4 9 rfl rfl)
theorem dX1_beside_105 : decode cX1_beside 105 = .ok (.goto (-68), 3) := dk_167 255 188 (dk_at dksX1_beside_4 12 rfl rfl)
theorem dX1_beside_108 : decode cX1_beside 108 = .ok (.iload_n 3, 1) := dk_29 (dk_at dksX1_beside_4 15 rfl rfl)
theorem dX1_beside_109 : decode cX1_beside 109 = .ok (.ifCond .eq 5, 3) := dk_153 0 5 (dk_at dksX1_beside_4 16 rfl rfl)
theorem dX1_beside_112 : decode cX1_beside 112 = .ok (.iload_n 2, 1) := dk_28 (dk_at dksX1_beside_4 19 rfl rfl)
theorem dX1_beside_113 : decode cX1_beside 113 = .ok (.istore_n 1, 1) := dk_60 (dk_at dksX1_beside_4 20 rfl rfl)
theorem dX1_beside_114 : decode cX1_beside 114 = .ok (.iinc 2 1, 3) := dk_132 2 1 (dk_at dksX1_beside_4 21 rfl rfl)
theorem dX1_beside_117 : decode cX1_beside 117 = .ok (.goto (-113), 3) := dk_167 255 143 (dk_at dksX1_beside_5 0 rfl rfl)
theorem dX1_beside_120 : decode cX1_beside 120 = .ok (.iload_n 1, 1) := dk_27 (dk_at dksX1_beside_5 3 rfl rfl)
theorem dX1_beside_121 : decode cX1_beside 121 = .ok (.ireturn, 1) := dk_172 (dk_at dksX1_beside_5 4 rfl rfl)
abbrev cX1_areClashing : ByteArray := prog_1_method_60_code
def yX1_areClashing : MethodName := ⟨RX1, "areClashing", "(II)Z"⟩
def dkwX1_areClashing_4 : List UInt8 := [21, 4, 182, 1, 125, 153, 0, 7, 4, 167, 0, 4, 3, 128, 62, 132, 4, 1, 167, 255, 148, 29, 172]
abbrev dktX1_areClashing_4 : List UInt8 := dkwX1_areClashing_4 ++ []
def dkwX1_areClashing_3 : List UInt8 := [4, 21, 4, 182, 1, 125, 154, 0, 26, 21, 6, 153, 0, 25, 42, 180, 0, 22, 180, 0, 112, 27, 50, 4]
abbrev dktX1_areClashing_3 : List UInt8 := dkwX1_areClashing_3 ++ dktX1_areClashing_4
def dkwX1_areClashing_2 : List UInt8 := [21, 5, 153, 0, 8, 21, 6, 154, 0, 49, 21, 5, 153, 0, 21, 42, 180, 0, 22, 180, 0, 112, 28, 50]
abbrev dktX1_areClashing_2 : List UInt8 := dkwX1_areClashing_2 ++ dktX1_areClashing_3
def dkwX1_areClashing_1 : List UInt8 := [182, 1, 125, 54, 5, 42, 180, 0, 22, 180, 0, 112, 28, 50, 5, 21, 4, 182, 1, 125, 54, 6, 29]
abbrev dktX1_areClashing_1 : List UInt8 := dkwX1_areClashing_1 ++ dktX1_areClashing_2
def dkwX1_areClashing_0 : List UInt8 := [3, 62, 3, 54, 4, 21, 4, 16, 8, 162, 0, 107, 42, 180, 0, 22, 180, 0, 112, 27, 50, 5, 21, 4]
abbrev dktX1_areClashing_0 : List UInt8 := dkwX1_areClashing_0 ++ dktX1_areClashing_1
theorem dksX1_areClashing_0 : cX1_areClashing.data.toList.drop 0 = dktX1_areClashing_0 := by decide +kernel
theorem dksX1_areClashing_1 : cX1_areClashing.data.toList.drop 24 = dktX1_areClashing_1 := dk_seg dksX1_areClashing_0 24 rfl rfl
theorem dksX1_areClashing_2 : cX1_areClashing.data.toList.drop 47 = dktX1_areClashing_2 := dk_seg dksX1_areClashing_1 23 rfl rfl
theorem dksX1_areClashing_3 : cX1_areClashing.data.toList.drop 71 = dktX1_areClashing_3 := dk_seg dksX1_areClashing_2 24 rfl rfl
theorem dksX1_areClashing_4 : cX1_areClashing.data.toList.drop 95 = dktX1_areClashing_4 := dk_seg dksX1_areClashing_3 24 rfl rfl
theorem dX1_areClashing_0 : decode cX1_areClashing 0 = .ok (.iconst 0, 1) := dk_3 (dk_at dksX1_areClashing_0 0 rfl rfl)
theorem dX1_areClashing_1 : decode cX1_areClashing 1 = .ok (.istore_n 3, 1) := dk_62 (dk_at dksX1_areClashing_0 1 rfl rfl)
theorem dX1_areClashing_2 : decode cX1_areClashing 2 = .ok (.iconst 0, 1) := dk_3 (dk_at dksX1_areClashing_0 2 rfl rfl)
theorem dX1_areClashing_3 : decode cX1_areClashing 3 = .ok (.istore 4, 2) := dk_54 4 (dk_at dksX1_areClashing_0 3 rfl rfl)
theorem dX1_areClashing_5 : decode cX1_areClashing 5 = .ok (.iload 4, 2) := dk_21 4 (dk_at dksX1_areClashing_0 5 rfl rfl)
theorem dX1_areClashing_7 : decode cX1_areClashing 7 = .ok (.bipush 8, 2) := dk_16 8 (dk_at dksX1_areClashing_0 7 rfl rfl)
theorem dX1_areClashing_9 : decode cX1_areClashing 9 = .ok (.if_icmp .ge 107, 3) := dk_162 0 107 (dk_at dksX1_areClashing_0 9 rfl rfl)
theorem dX1_areClashing_12 : decode cX1_areClashing 12 = .ok (.aload_n 0, 1) := dk_42 (dk_at dksX1_areClashing_0 12 rfl rfl)
theorem dX1_areClashing_13 : decode cX1_areClashing 13 = .ok (.getfield 22, 3) := dk_180 0 22 (dk_at dksX1_areClashing_0 13 rfl rfl)
theorem dX1_areClashing_16 : decode cX1_areClashing 16 = .ok (.getfield 112, 3) := dk_180 0 112 (dk_at dksX1_areClashing_0 16 rfl rfl)
theorem dX1_areClashing_19 : decode cX1_areClashing 19 = .ok (.iload_n 1, 1) := dk_27 (dk_at dksX1_areClashing_0 19 rfl rfl)
theorem dX1_areClashing_20 : decode cX1_areClashing 20 = .ok (.aaload, 1) := dk_50 (dk_at dksX1_areClashing_0 20 rfl rfl)
theorem dX1_areClashing_21 : decode cX1_areClashing 21 = .ok (.iconst 2, 1) := dk_5 (dk_at dksX1_areClashing_0 21 rfl rfl)
theorem dX1_areClashing_22 : decode cX1_areClashing 22 = .ok (.iload 4, 2) := dk_21 4 (dk_at dksX1_areClashing_0 22 rfl rfl)
theorem dX1_areClashing_24 : decode cX1_areClashing 24 = .ok (.invokevirtual 381, 3) := dk_182 1 125 (dk_at dksX1_areClashing_1 0 rfl rfl)
theorem dX1_areClashing_27 : decode cX1_areClashing 27 = .ok (.istore 5, 2) := dk_54 5 (dk_at dksX1_areClashing_1 3 rfl rfl)
theorem dX1_areClashing_29 : decode cX1_areClashing 29 = .ok (.aload_n 0, 1) := dk_42 (dk_at dksX1_areClashing_1 5 rfl rfl)
theorem dX1_areClashing_30 : decode cX1_areClashing 30 = .ok (.getfield 22, 3) := dk_180 0 22 (dk_at dksX1_areClashing_1 6 rfl rfl)
theorem dX1_areClashing_33 : decode cX1_areClashing 33 = .ok (.getfield 112, 3) := dk_180 0 112 (dk_at dksX1_areClashing_1 9 rfl rfl)
theorem dX1_areClashing_36 : decode cX1_areClashing 36 = .ok (.iload_n 2, 1) := dk_28 (dk_at dksX1_areClashing_1 12 rfl rfl)
theorem dX1_areClashing_37 : decode cX1_areClashing 37 = .ok (.aaload, 1) := dk_50 (dk_at dksX1_areClashing_1 13 rfl rfl)
theorem dX1_areClashing_38 : decode cX1_areClashing 38 = .ok (.iconst 2, 1) := dk_5 (dk_at dksX1_areClashing_1 14 rfl rfl)
theorem dX1_areClashing_39 : decode cX1_areClashing 39 = .ok (.iload 4, 2) := dk_21 4 (dk_at dksX1_areClashing_1 15 rfl rfl)
theorem dX1_areClashing_41 : decode cX1_areClashing 41 = .ok (.invokevirtual 381, 3) := dk_182 1 125 (dk_at dksX1_areClashing_1 17 rfl rfl)
theorem dX1_areClashing_44 : decode cX1_areClashing 44 = .ok (.istore 6, 2) := dk_54 6 (dk_at dksX1_areClashing_1 20 rfl rfl)
theorem dX1_areClashing_46 : decode cX1_areClashing 46 = .ok (.iload_n 3, 1) := dk_29 (dk_at dksX1_areClashing_1 22 rfl rfl)
theorem dX1_areClashing_47 : decode cX1_areClashing 47 = .ok (.iload 5, 2) := dk_21 5 (dk_at dksX1_areClashing_2 0 rfl rfl)
theorem dX1_areClashing_49 : decode cX1_areClashing 49 = .ok (.ifCond .eq 8, 3) := dk_153 0 8 (dk_at dksX1_areClashing_2 2 rfl rfl)
theorem dX1_areClashing_52 : decode cX1_areClashing 52 = .ok (.iload 6, 2) := dk_21 6 (dk_at dksX1_areClashing_2 5 rfl rfl)
theorem dX1_areClashing_54 : decode cX1_areClashing 54 = .ok (.ifCond .ne 49, 3) := dk_154 0 49 (dk_at dksX1_areClashing_2 7 rfl rfl)
theorem dX1_areClashing_57 : decode cX1_areClashing 57 = .ok (.iload 5, 2) := dk_21 5 (dk_at dksX1_areClashing_2 10 rfl rfl)
theorem dX1_areClashing_59 : decode cX1_areClashing 59 = .ok (.ifCond .eq 21, 3) := dk_153 0 21 (dk_at dksX1_areClashing_2 12 rfl rfl)
theorem dX1_areClashing_62 : decode cX1_areClashing 62 = .ok (.aload_n 0, 1) := dk_42 (dk_at dksX1_areClashing_2 15 rfl rfl)
theorem dX1_areClashing_63 : decode cX1_areClashing 63 = .ok (.getfield 22, 3) := dk_180 0 22 (dk_at dksX1_areClashing_2 16 rfl rfl)
theorem dX1_areClashing_66 : decode cX1_areClashing 66 = .ok (.getfield 112, 3) := dk_180 0 112 (dk_at dksX1_areClashing_2 19 rfl rfl)
theorem dX1_areClashing_69 : decode cX1_areClashing 69 = .ok (.iload_n 2, 1) := dk_28 (dk_at dksX1_areClashing_2 22 rfl rfl)
theorem dX1_areClashing_70 : decode cX1_areClashing 70 = .ok (.aaload, 1) := dk_50 (dk_at dksX1_areClashing_2 23 rfl rfl)
theorem dX1_areClashing_71 : decode cX1_areClashing 71 = .ok (.iconst 1, 1) := dk_4 (dk_at dksX1_areClashing_3 0 rfl rfl)
theorem dX1_areClashing_72 : decode cX1_areClashing 72 = .ok (.iload 4, 2) := dk_21 4 (dk_at dksX1_areClashing_3 1 rfl rfl)
theorem dX1_areClashing_74 : decode cX1_areClashing 74 = .ok (.invokevirtual 381, 3) := dk_182 1 125 (dk_at dksX1_areClashing_3 3 rfl rfl)
theorem dX1_areClashing_77 : decode cX1_areClashing 77 = .ok (.ifCond .ne 26, 3) := dk_154 0 26 (dk_at dksX1_areClashing_3 6 rfl rfl)
theorem dX1_areClashing_80 : decode cX1_areClashing 80 = .ok (.iload 6, 2) := dk_21 6 (dk_at dksX1_areClashing_3 9 rfl rfl)
theorem dX1_areClashing_82 : decode cX1_areClashing 82 = .ok (.ifCond .eq 25, 3) := dk_153 0 25 (dk_at dksX1_areClashing_3 11 rfl rfl)
theorem dX1_areClashing_85 : decode cX1_areClashing 85 = .ok (.aload_n 0, 1) := dk_42 (dk_at dksX1_areClashing_3 14 rfl rfl)
theorem dX1_areClashing_86 : decode cX1_areClashing 86 = .ok (.getfield 22, 3) := dk_180 0 22 (dk_at dksX1_areClashing_3 15 rfl rfl)
theorem dX1_areClashing_89 : decode cX1_areClashing 89 = .ok (.getfield 112, 3) := dk_180 0 112 (dk_at dksX1_areClashing_3 18 rfl rfl)
theorem dX1_areClashing_92 : decode cX1_areClashing 92 = .ok (.iload_n 1, 1) := dk_27 (dk_at dksX1_areClashing_3 21 rfl rfl)
theorem dX1_areClashing_93 : decode cX1_areClashing 93 = .ok (.aaload, 1) := dk_50 (dk_at dksX1_areClashing_3 22 rfl rfl)
theorem dX1_areClashing_94 : decode cX1_areClashing 94 = .ok (.iconst 1, 1) := dk_4 (dk_at dksX1_areClashing_3 23 rfl rfl)
theorem dX1_areClashing_95 : decode cX1_areClashing 95 = .ok (.iload 4, 2) := dk_21 4 (dk_at dksX1_areClashing_4 0 rfl rfl)
theorem dX1_areClashing_97 : decode cX1_areClashing 97 = .ok (.invokevirtual 381, 3) := dk_182 1 125 (dk_at dksX1_areClashing_4 2 rfl rfl)
theorem dX1_areClashing_100 : decode cX1_areClashing 100 = .ok (.ifCond .eq 7, 3) := dk_153 0 7 (dk_at dksX1_areClashing_4 5 rfl rfl)
theorem dX1_areClashing_103 : decode cX1_areClashing 103 = .ok (.iconst 1, 1) := dk_4 (dk_at dksX1_areClashing_4 8 rfl rfl)
theorem dX1_areClashing_104 : decode cX1_areClashing 104 = .ok (.goto 4, 3) := dk_167 0 4 (dk_at dksX1_areClashing_4 9 rfl rfl)
theorem dX1_areClashing_107 : decode cX1_areClashing 107 = .ok (.iconst 0, 1) := dk_3 (dk_at dksX1_areClashing_4 12 rfl rfl)
theorem dX1_areClashing_108 : decode cX1_areClashing 108 = .ok (.ior, 1) := dk_128 (dk_at dksX1_areClashing_4 13 rfl rfl)
theorem dX1_areClashing_109 : decode cX1_areClashing 109 = .ok (.istore_n 3, 1) := dk_62 (dk_at dksX1_areClashing_4 14 rfl rfl)
theorem dX1_areClashing_110 : decode cX1_areClashing 110 = .ok (.iinc 4 1, 3) := dk_132 4 1 (dk_at dksX1_areClashing_4 15 rfl rfl)
theorem dX1_areClashing_113 : decode cX1_areClashing 113 = .ok (.goto (-108), 3) := dk_167 255 148 (dk_at dksX1_areClashing_4 18 rfl rfl)
theorem dX1_areClashing_116 : decode cX1_areClashing 116 = .ok (.iload_n 3, 1) := dk_29 (dk_at dksX1_areClashing_4 21 rfl rfl)
theorem dX1_areClashing_117 : decode cX1_areClashing 117 = .ok (.ireturn, 1) := dk_172 (dk_at dksX1_areClashing_4 22 rfl rfl)
abbrev cX1_open : ByteArray := prog_1_method_63_code
def yX1_open : MethodName := ⟨RX1, "open", "()I"⟩
def dkwX1_open_0 : List UInt8 := [42, 182, 1, 94, 184, 1, 132, 172]
abbrev dktX1_open_0 : List UInt8 := dkwX1_open_0 ++ []
theorem dksX1_open_0 : cX1_open.data.toList.drop 0 = dktX1_open_0 := by decide +kernel
theorem dX1_open_0 : decode cX1_open 0 = .ok (.aload_n 0, 1) := dk_42 (dk_at dksX1_open_0 0 rfl rfl)
theorem dX1_open_1 : decode cX1_open 1 = .ok (.invokevirtual 350, 3) := dk_182 1 94 (dk_at dksX1_open_0 1 rfl rfl)
theorem dX1_open_4 : decode cX1_open 4 = .ok (.invokestatic 388, 3) := dk_184 1 132 (dk_at dksX1_open_0 4 rfl rfl)
theorem dX1_open_7 : decode cX1_open 7 = .ok (.ireturn, 1) := dk_172 (dk_at dksX1_open_0 7 rfl rfl)
abbrev cX1_lead : ByteArray := prog_1_method_72_code
def yX1_lead : MethodName := ⟨RX1, "lead", "()I"⟩
def dkwX1_lead_0 : List UInt8 := [42, 182, 1, 150, 42, 180, 0, 62, 3, 16, 8, 184, 1, 147, 46, 172]
abbrev dktX1_lead_0 : List UInt8 := dkwX1_lead_0 ++ []
theorem dksX1_lead_0 : cX1_lead.data.toList.drop 0 = dktX1_lead_0 := by decide +kernel
theorem dX1_lead_0 : decode cX1_lead 0 = .ok (.aload_n 0, 1) := dk_42 (dk_at dksX1_lead_0 0 rfl rfl)
theorem dX1_lead_1 : decode cX1_lead 1 = .ok (.invokevirtual 406, 3) := dk_182 1 150 (dk_at dksX1_lead_0 1 rfl rfl)
theorem dX1_lead_4 : decode cX1_lead 4 = .ok (.aload_n 0, 1) := dk_42 (dk_at dksX1_lead_0 4 rfl rfl)
theorem dX1_lead_5 : decode cX1_lead 5 = .ok (.getfield 62, 3) := dk_180 0 62 (dk_at dksX1_lead_0 5 rfl rfl)
theorem dX1_lead_8 : decode cX1_lead 8 = .ok (.iconst 0, 1) := dk_3 (dk_at dksX1_lead_0 8 rfl rfl)
theorem dX1_lead_9 : decode cX1_lead 9 = .ok (.bipush 8, 2) := dk_16 8 (dk_at dksX1_lead_0 9 rfl rfl)
theorem dX1_lead_11 : decode cX1_lead 11 = .ok (.invokestatic 403, 3) := dk_184 1 147 (dk_at dksX1_lead_0 11 rfl rfl)
theorem dX1_lead_14 : decode cX1_lead 14 = .ok (.iaload, 1) := dk_46 (dk_at dksX1_lead_0 14 rfl rfl)
theorem dX1_lead_15 : decode cX1_lead 15 = .ok (.ireturn, 1) := dk_172 (dk_at dksX1_lead_0 15 rfl rfl)
abbrev cX1_allLeads : ByteArray := prog_1_method_71_code
def yX1_allLeads : MethodName := ⟨RX1, "allLeads", "()V"⟩
def dkwX1_allLeads_5 : List UInt8 := [177]
abbrev dktX1_allLeads_5 : List UInt8 := dkwX1_allLeads_5 ++ []
def dkwX1_allLeads_4 : List UInt8 := [29, 4, 100, 184, 1, 147, 46, 100, 184, 1, 79, 79, 132, 2, 1, 167, 255, 182, 132, 1, 1, 167, 255, 168]
abbrev dktX1_allLeads_4 : List UInt8 := dkwX1_allLeads_4 ++ dktX1_allLeads_5
def dkwX1_allLeads_3 : List UInt8 := [4, 96, 29, 184, 1, 147, 46, 100, 42, 180, 0, 22, 180, 0, 73, 29, 4, 100, 46, 42, 180, 0, 62, 28]
abbrev dktX1_allLeads_3 : List UInt8 := dkwX1_allLeads_3 ++ dktX1_allLeads_4
def dkwX1_allLeads_2 : List UInt8 := [62, 42, 180, 0, 62, 28, 29, 184, 1, 147, 42, 180, 0, 22, 180, 0, 73, 28, 46, 42, 180, 0, 62, 28]
abbrev dktX1_allLeads_2 : List UInt8 := dkwX1_allLeads_2 ++ dktX1_allLeads_3
def dkwX1_allLeads_1 : List UInt8 := [167, 255, 236, 4, 60, 27, 16, 8, 163, 0, 88, 3, 61, 28, 27, 96, 16, 8, 163, 0, 72, 28, 27, 96]
abbrev dktX1_allLeads_1 : List UInt8 := dkwX1_allLeads_1 ++ dktX1_allLeads_2
def dkwX1_allLeads_0 : List UInt8 := [3, 60, 27, 16, 8, 163, 0, 20, 42, 180, 0, 62, 27, 27, 184, 1, 147, 3, 79, 132, 1, 1]
abbrev dktX1_allLeads_0 : List UInt8 := dkwX1_allLeads_0 ++ dktX1_allLeads_1
theorem dksX1_allLeads_0 : cX1_allLeads.data.toList.drop 0 = dktX1_allLeads_0 := by decide +kernel
theorem dksX1_allLeads_1 : cX1_allLeads.data.toList.drop 22 = dktX1_allLeads_1 := dk_seg dksX1_allLeads_0 22 rfl rfl
theorem dksX1_allLeads_2 : cX1_allLeads.data.toList.drop 46 = dktX1_allLeads_2 := dk_seg dksX1_allLeads_1 24 rfl rfl
theorem dksX1_allLeads_3 : cX1_allLeads.data.toList.drop 70 = dktX1_allLeads_3 := dk_seg dksX1_allLeads_2 24 rfl rfl
theorem dksX1_allLeads_4 : cX1_allLeads.data.toList.drop 94 = dktX1_allLeads_4 := dk_seg dksX1_allLeads_3 24 rfl rfl
theorem dksX1_allLeads_5 : cX1_allLeads.data.toList.drop 118 = dktX1_allLeads_5 := dk_seg dksX1_allLeads_4 24 rfl rfl
theorem dX1_allLeads_0 : decode cX1_allLeads 0 = .ok (.iconst 0, 1) := dk_3 (dk_at dksX1_allLeads_0 0 rfl rfl)
theorem dX1_allLeads_1 : decode cX1_allLeads 1 = .ok (.istore_n 1, 1) := dk_60 (dk_at dksX1_allLeads_0 1 rfl rfl)
theorem dX1_allLeads_2 : decode cX1_allLeads 2 = .ok (.iload_n 1, 1) := dk_27 (dk_at dksX1_allLeads_0 2 rfl rfl)
theorem dX1_allLeads_3 : decode cX1_allLeads 3 = .ok (.bipush 8, 2) := dk_16 8 (dk_at dksX1_allLeads_0 3 rfl rfl)
theorem dX1_allLeads_5 : decode cX1_allLeads 5 = .ok (.if_icmp .gt 20, 3) := dk_163 0 20 (dk_at dksX1_allLeads_0 5 rfl rfl)
theorem dX1_allLeads_8 : decode cX1_allLeads 8 = .ok (.aload_n 0, 1) := dk_42 (dk_at dksX1_allLeads_0 8 rfl rfl)
theorem dX1_allLeads_9 : decode cX1_allLeads 9 = .ok (.getfield 62, 3) := dk_180 0 62 (dk_at dksX1_allLeads_0 9 rfl rfl)
theorem dX1_allLeads_12 : decode cX1_allLeads 12 = .ok (.iload_n 1, 1) := dk_27 (dk_at dksX1_allLeads_0 12 rfl rfl)
theorem dX1_allLeads_13 : decode cX1_allLeads 13 = .ok (.iload_n 1, 1) := dk_27 (dk_at dksX1_allLeads_0 13 rfl rfl)
theorem dX1_allLeads_14 : decode cX1_allLeads 14 = .ok (.invokestatic 403, 3) := dk_184 1 147 (dk_at dksX1_allLeads_0 14 rfl rfl)
theorem dX1_allLeads_17 : decode cX1_allLeads 17 = .ok (.iconst 0, 1) := dk_3 (dk_at dksX1_allLeads_0 17 rfl rfl)
theorem dX1_allLeads_18 : decode cX1_allLeads 18 = .ok (.iastore, 1) := dk_79 (dk_at dksX1_allLeads_0 18 rfl rfl)
theorem dX1_allLeads_19 : decode cX1_allLeads 19 = .ok (.iinc 1 1, 3) := dk_132 1 1 (dk_at dksX1_allLeads_0 19 rfl rfl)
theorem dX1_allLeads_22 : decode cX1_allLeads 22 = .ok (.goto (-20), 3) := dk_167 255 236 (dk_at dksX1_allLeads_1 0 rfl rfl)
theorem dX1_allLeads_25 : decode cX1_allLeads 25 = .ok (.iconst 1, 1) := dk_4 (dk_at dksX1_allLeads_1 3 rfl rfl)
theorem dX1_allLeads_26 : decode cX1_allLeads 26 = .ok (.istore_n 1, 1) := dk_60 (dk_at dksX1_allLeads_1 4 rfl rfl)
theorem dX1_allLeads_27 : decode cX1_allLeads 27 = .ok (.iload_n 1, 1) := dk_27 (dk_at dksX1_allLeads_1 5 rfl rfl)
theorem dX1_allLeads_28 : decode cX1_allLeads 28 = .ok (.bipush 8, 2) := dk_16 8 (dk_at dksX1_allLeads_1 6 rfl rfl)
theorem dX1_allLeads_30 : decode cX1_allLeads 30 = .ok (.if_icmp .gt 88, 3) := dk_163 0 88 (dk_at dksX1_allLeads_1 8 rfl rfl)
theorem dX1_allLeads_33 : decode cX1_allLeads 33 = .ok (.iconst 0, 1) := dk_3 (dk_at dksX1_allLeads_1 11 rfl rfl)
theorem dX1_allLeads_34 : decode cX1_allLeads 34 = .ok (.istore_n 2, 1) := dk_61 (dk_at dksX1_allLeads_1 12 rfl rfl)
theorem dX1_allLeads_35 : decode cX1_allLeads 35 = .ok (.iload_n 2, 1) := dk_28 (dk_at dksX1_allLeads_1 13 rfl rfl)
theorem dX1_allLeads_36 : decode cX1_allLeads 36 = .ok (.iload_n 1, 1) := dk_27 (dk_at dksX1_allLeads_1 14 rfl rfl)
theorem dX1_allLeads_37 : decode cX1_allLeads 37 = .ok (.iadd, 1) := dk_96 (dk_at dksX1_allLeads_1 15 rfl rfl)
theorem dX1_allLeads_38 : decode cX1_allLeads 38 = .ok (.bipush 8, 2) := dk_16 8 (dk_at dksX1_allLeads_1 16 rfl rfl)
theorem dX1_allLeads_40 : decode cX1_allLeads 40 = .ok (.if_icmp .gt 72, 3) := dk_163 0 72 (dk_at dksX1_allLeads_1 18 rfl rfl)
theorem dX1_allLeads_43 : decode cX1_allLeads 43 = .ok (.iload_n 2, 1) := dk_28 (dk_at dksX1_allLeads_1 21 rfl rfl)
theorem dX1_allLeads_44 : decode cX1_allLeads 44 = .ok (.iload_n 1, 1) := dk_27 (dk_at dksX1_allLeads_1 22 rfl rfl)
theorem dX1_allLeads_45 : decode cX1_allLeads 45 = .ok (.iadd, 1) := dk_96 (dk_at dksX1_allLeads_1 23 rfl rfl)
theorem dX1_allLeads_46 : decode cX1_allLeads 46 = .ok (.istore_n 3, 1) := dk_62 (dk_at dksX1_allLeads_2 0 rfl rfl)
theorem dX1_allLeads_47 : decode cX1_allLeads 47 = .ok (.aload_n 0, 1) := dk_42 (dk_at dksX1_allLeads_2 1 rfl rfl)
theorem dX1_allLeads_48 : decode cX1_allLeads 48 = .ok (.getfield 62, 3) := dk_180 0 62 (dk_at dksX1_allLeads_2 2 rfl rfl)
theorem dX1_allLeads_51 : decode cX1_allLeads 51 = .ok (.iload_n 2, 1) := dk_28 (dk_at dksX1_allLeads_2 5 rfl rfl)
theorem dX1_allLeads_52 : decode cX1_allLeads 52 = .ok (.iload_n 3, 1) := dk_29 (dk_at dksX1_allLeads_2 6 rfl rfl)
theorem dX1_allLeads_53 : decode cX1_allLeads 53 = .ok (.invokestatic 403, 3) := dk_184 1 147 (dk_at dksX1_allLeads_2 7 rfl rfl)
theorem dX1_allLeads_56 : decode cX1_allLeads 56 = .ok (.aload_n 0, 1) := dk_42 (dk_at dksX1_allLeads_2 10 rfl rfl)
theorem dX1_allLeads_57 : decode cX1_allLeads 57 = .ok (.getfield 22, 3) := dk_180 0 22 (dk_at dksX1_allLeads_2 11 rfl rfl)
theorem dX1_allLeads_60 : decode cX1_allLeads 60 = .ok (.getfield 73, 3) := dk_180 0 73 (dk_at dksX1_allLeads_2 14 rfl rfl)
theorem dX1_allLeads_63 : decode cX1_allLeads 63 = .ok (.iload_n 2, 1) := dk_28 (dk_at dksX1_allLeads_2 17 rfl rfl)
theorem dX1_allLeads_64 : decode cX1_allLeads 64 = .ok (.iaload, 1) := dk_46 (dk_at dksX1_allLeads_2 18 rfl rfl)
theorem dX1_allLeads_65 : decode cX1_allLeads 65 = .ok (.aload_n 0, 1) := dk_42 (dk_at dksX1_allLeads_2 19 rfl rfl)
theorem dX1_allLeads_66 : decode cX1_allLeads 66 = .ok (.getfield 62, 3) := dk_180 0 62 (dk_at dksX1_allLeads_2 20 rfl rfl)
theorem dX1_allLeads_69 : decode cX1_allLeads 69 = .ok (.iload_n 2, 1) := dk_28 (dk_at dksX1_allLeads_2 23 rfl rfl)
theorem dX1_allLeads_70 : decode cX1_allLeads 70 = .ok (.iconst 1, 1) := dk_4 (dk_at dksX1_allLeads_3 0 rfl rfl)
theorem dX1_allLeads_71 : decode cX1_allLeads 71 = .ok (.iadd, 1) := dk_96 (dk_at dksX1_allLeads_3 1 rfl rfl)
theorem dX1_allLeads_72 : decode cX1_allLeads 72 = .ok (.iload_n 3, 1) := dk_29 (dk_at dksX1_allLeads_3 2 rfl rfl)
theorem dX1_allLeads_73 : decode cX1_allLeads 73 = .ok (.invokestatic 403, 3) := dk_184 1 147 (dk_at dksX1_allLeads_3 3 rfl rfl)
theorem dX1_allLeads_76 : decode cX1_allLeads 76 = .ok (.iaload, 1) := dk_46 (dk_at dksX1_allLeads_3 6 rfl rfl)
theorem dX1_allLeads_77 : decode cX1_allLeads 77 = .ok (.isub, 1) := dk_100 (dk_at dksX1_allLeads_3 7 rfl rfl)
theorem dX1_allLeads_78 : decode cX1_allLeads 78 = .ok (.aload_n 0, 1) := dk_42 (dk_at dksX1_allLeads_3 8 rfl rfl)
theorem dX1_allLeads_79 : decode cX1_allLeads 79 = .ok (.getfield 22, 3) := dk_180 0 22 (dk_at dksX1_allLeads_3 9 rfl rfl)
theorem dX1_allLeads_82 : decode cX1_allLeads 82 = .ok (.getfield 73, 3) := dk_180 0 73 (dk_at dksX1_allLeads_3 12 rfl rfl)
theorem dX1_allLeads_85 : decode cX1_allLeads 85 = .ok (.iload_n 3, 1) := dk_29 (dk_at dksX1_allLeads_3 15 rfl rfl)
theorem dX1_allLeads_86 : decode cX1_allLeads 86 = .ok (.iconst 1, 1) := dk_4 (dk_at dksX1_allLeads_3 16 rfl rfl)
theorem dX1_allLeads_87 : decode cX1_allLeads 87 = .ok (.isub, 1) := dk_100 (dk_at dksX1_allLeads_3 17 rfl rfl)
theorem dX1_allLeads_88 : decode cX1_allLeads 88 = .ok (.iaload, 1) := dk_46 (dk_at dksX1_allLeads_3 18 rfl rfl)
theorem dX1_allLeads_89 : decode cX1_allLeads 89 = .ok (.aload_n 0, 1) := dk_42 (dk_at dksX1_allLeads_3 19 rfl rfl)
theorem dX1_allLeads_90 : decode cX1_allLeads 90 = .ok (.getfield 62, 3) := dk_180 0 62 (dk_at dksX1_allLeads_3 20 rfl rfl)
theorem dX1_allLeads_93 : decode cX1_allLeads 93 = .ok (.iload_n 2, 1) := dk_28 (dk_at dksX1_allLeads_3 23 rfl rfl)
theorem dX1_allLeads_94 : decode cX1_allLeads 94 = .ok (.iload_n 3, 1) := dk_29 (dk_at dksX1_allLeads_4 0 rfl rfl)
theorem dX1_allLeads_95 : decode cX1_allLeads 95 = .ok (.iconst 1, 1) := dk_4 (dk_at dksX1_allLeads_4 1 rfl rfl)
theorem dX1_allLeads_96 : decode cX1_allLeads 96 = .ok (.isub, 1) := dk_100 (dk_at dksX1_allLeads_4 2 rfl rfl)
theorem dX1_allLeads_97 : decode cX1_allLeads 97 = .ok (.invokestatic 403, 3) := dk_184 1 147 (dk_at dksX1_allLeads_4 3 rfl rfl)
theorem dX1_allLeads_100 : decode cX1_allLeads 100 = .ok (.iaload, 1) := dk_46 (dk_at dksX1_allLeads_4 6 rfl rfl)
theorem dX1_allLeads_101 : decode cX1_allLeads 101 = .ok (.isub, 1) := dk_100 (dk_at dksX1_allLeads_4 7 rfl rfl)
theorem dX1_allLeads_102 : decode cX1_allLeads 102 = .ok (.invokestatic 335, 3) := dk_184 1 79 (dk_at dksX1_allLeads_4 8 rfl rfl)
theorem dX1_allLeads_105 : decode cX1_allLeads 105 = .ok (.iastore, 1) := dk_79 (dk_at dksX1_allLeads_4 11 rfl rfl)
theorem dX1_allLeads_106 : decode cX1_allLeads 106 = .ok (.iinc 2 1, 3) := dk_132 2 1 (dk_at dksX1_allLeads_4 12 rfl rfl)
theorem dX1_allLeads_109 : decode cX1_allLeads 109 = .ok (.goto (-74), 3) := dk_167 255 182 (dk_at dksX1_allLeads_4 15 rfl rfl)
theorem dX1_allLeads_112 : decode cX1_allLeads 112 = .ok (.iinc 1 1, 3) := dk_132 1 1 (dk_at dksX1_allLeads_4 18 rfl rfl)
theorem dX1_allLeads_115 : decode cX1_allLeads 115 = .ok (.goto (-88), 3) := dk_167 255 168 (dk_at dksX1_allLeads_4 21 rfl rfl)
theorem dX1_allLeads_118 : decode cX1_allLeads 118 = .ok (.return_, 1) := dk_177 (dk_at dksX1_allLeads_5 0 rfl rfl)
abbrev cX1_stretch : ByteArray := prog_1_method_70_code
def yX1_stretch : MethodName := ⟨RX1, "stretch", "(II)I"⟩
def dkwX1_stretch_0 : List UInt8 := [16, 9, 26, 104, 27, 96, 172]
abbrev dktX1_stretch_0 : List UInt8 := dkwX1_stretch_0 ++ []
theorem dksX1_stretch_0 : cX1_stretch.data.toList.drop 0 = dktX1_stretch_0 := by decide +kernel
theorem dX1_stretch_0 : decode cX1_stretch 0 = .ok (.bipush 9, 2) := dk_16 9 (dk_at dksX1_stretch_0 0 rfl rfl)
theorem dX1_stretch_2 : decode cX1_stretch 2 = .ok (.iload_n 0, 1) := dk_26 (dk_at dksX1_stretch_0 2 rfl rfl)
theorem dX1_stretch_3 : decode cX1_stretch 3 = .ok (.imul, 1) := dk_104 (dk_at dksX1_stretch_0 3 rfl rfl)
theorem dX1_stretch_4 : decode cX1_stretch 4 = .ok (.iload_n 1, 1) := dk_27 (dk_at dksX1_stretch_0 4 rfl rfl)
theorem dX1_stretch_5 : decode cX1_stretch 5 = .ok (.iadd, 1) := dk_96 (dk_at dksX1_stretch_0 5 rfl rfl)
theorem dX1_stretch_6 : decode cX1_stretch 6 = .ok (.ireturn, 1) := dk_172 (dk_at dksX1_stretch_0 6 rfl rfl)
abbrev cX1_side : ByteArray := prog_1_method_73_code
def yX1_side : MethodName := ⟨RX1, "side", "()I"⟩
def dkwX1_side_1 : List UInt8 := [100, 42, 180, 0, 62, 3, 16, 8, 184, 1, 147, 46, 160, 0, 7, 3, 167, 0, 4, 4, 172]
abbrev dktX1_side_1 : List UInt8 := dkwX1_side_1 ++ []
def dkwX1_side_0 : List UInt8 := [42, 182, 1, 150, 42, 180, 0, 22, 180, 0, 73, 3, 46, 42, 180, 0, 62, 4, 16, 8, 184, 1, 147, 46]
abbrev dktX1_side_0 : List UInt8 := dkwX1_side_0 ++ dktX1_side_1
theorem dksX1_side_0 : cX1_side.data.toList.drop 0 = dktX1_side_0 := by decide +kernel
theorem dksX1_side_1 : cX1_side.data.toList.drop 24 = dktX1_side_1 := dk_seg dksX1_side_0 24 rfl rfl
theorem dX1_side_0 : decode cX1_side 0 = .ok (.aload_n 0, 1) := dk_42 (dk_at dksX1_side_0 0 rfl rfl)
theorem dX1_side_1 : decode cX1_side 1 = .ok (.invokevirtual 406, 3) := dk_182 1 150 (dk_at dksX1_side_0 1 rfl rfl)
theorem dX1_side_4 : decode cX1_side 4 = .ok (.aload_n 0, 1) := dk_42 (dk_at dksX1_side_0 4 rfl rfl)
theorem dX1_side_5 : decode cX1_side 5 = .ok (.getfield 22, 3) := dk_180 0 22 (dk_at dksX1_side_0 5 rfl rfl)
theorem dX1_side_8 : decode cX1_side 8 = .ok (.getfield 73, 3) := dk_180 0 73 (dk_at dksX1_side_0 8 rfl rfl)
theorem dX1_side_11 : decode cX1_side 11 = .ok (.iconst 0, 1) := dk_3 (dk_at dksX1_side_0 11 rfl rfl)
theorem dX1_side_12 : decode cX1_side 12 = .ok (.iaload, 1) := dk_46 (dk_at dksX1_side_0 12 rfl rfl)
theorem dX1_side_13 : decode cX1_side 13 = .ok (.aload_n 0, 1) := dk_42 (dk_at dksX1_side_0 13 rfl rfl)
theorem dX1_side_14 : decode cX1_side 14 = .ok (.getfield 62, 3) := dk_180 0 62 (dk_at dksX1_side_0 14 rfl rfl)
theorem dX1_side_17 : decode cX1_side 17 = .ok (.iconst 1, 1) := dk_4 (dk_at dksX1_side_0 17 rfl rfl)
theorem dX1_side_18 : decode cX1_side 18 = .ok (.bipush 8, 2) := dk_16 8 (dk_at dksX1_side_0 18 rfl rfl)
theorem dX1_side_20 : decode cX1_side 20 = .ok (.invokestatic 403, 3) := dk_184 1 147 (dk_at dksX1_side_0 20 rfl rfl)
theorem dX1_side_23 : decode cX1_side 23 = .ok (.iaload, 1) := dk_46 (dk_at dksX1_side_0 23 rfl rfl)
theorem dX1_side_24 : decode cX1_side 24 = .ok (.isub, 1) := dk_100 (dk_at dksX1_side_1 0 rfl rfl)
theorem dX1_side_25 : decode cX1_side 25 = .ok (.aload_n 0, 1) := dk_42 (dk_at dksX1_side_1 1 rfl rfl)
theorem dX1_side_26 : decode cX1_side 26 = .ok (.getfield 62, 3) := dk_180 0 62 (dk_at dksX1_side_1 2 rfl rfl)
theorem dX1_side_29 : decode cX1_side 29 = .ok (.iconst 0, 1) := dk_3 (dk_at dksX1_side_1 5 rfl rfl)
theorem dX1_side_30 : decode cX1_side 30 = .ok (.bipush 8, 2) := dk_16 8 (dk_at dksX1_side_1 6 rfl rfl)
theorem dX1_side_32 : decode cX1_side 32 = .ok (.invokestatic 403, 3) := dk_184 1 147 (dk_at dksX1_side_1 8 rfl rfl)
theorem dX1_side_35 : decode cX1_side 35 = .ok (.iaload, 1) := dk_46 (dk_at dksX1_side_1 11 rfl rfl)
theorem dX1_side_36 : decode cX1_side 36 = .ok (.if_icmp .ne 7, 3) := dk_160 0 7 (dk_at dksX1_side_1 12 rfl rfl)
theorem dX1_side_39 : decode cX1_side 39 = .ok (.iconst 0, 1) := dk_3 (dk_at dksX1_side_1 15 rfl rfl)
theorem dX1_side_40 : decode cX1_side 40 = .ok (.goto 4, 3) := dk_167 0 4 (dk_at dksX1_side_1 16 rfl rfl)
theorem dX1_side_43 : decode cX1_side 43 = .ok (.iconst 1, 1) := dk_4 (dk_at dksX1_side_1 19 rfl rfl)
theorem dX1_side_44 : decode cX1_side 44 = .ok (.ireturn, 1) := dk_172 (dk_at dksX1_side_1 20 rfl rfl)
abbrev cX1_twins : ByteArray := prog_1_method_83_code
def yX1_twins : MethodName := ⟨RX1, "twins", "()I"⟩
def dkwX1_twins_2 : List UInt8 := [60, 132, 3, 1, 167, 255, 221, 132, 2, 1, 167, 255, 202, 27, 172]
abbrev dktX1_twins_2 : List UInt8 := dkwX1_twins_2 ++ []
def dkwX1_twins_1 : List UInt8 := [180, 0, 22, 180, 0, 112, 28, 50, 42, 180, 0, 22, 180, 0, 112, 29, 50, 182, 1, 175, 184, 0, 248, 96]
abbrev dktX1_twins_1 : List UInt8 := dkwX1_twins_1 ++ dktX1_twins_2
def dkwX1_twins_0 : List UInt8 := [3, 60, 3, 61, 28, 42, 180, 0, 22, 180, 0, 101, 162, 0, 49, 3, 62, 29, 28, 162, 0, 36, 27, 42]
abbrev dktX1_twins_0 : List UInt8 := dkwX1_twins_0 ++ dktX1_twins_1
theorem dksX1_twins_0 : cX1_twins.data.toList.drop 0 = dktX1_twins_0 := by decide +kernel
theorem dksX1_twins_1 : cX1_twins.data.toList.drop 24 = dktX1_twins_1 := dk_seg dksX1_twins_0 24 rfl rfl
theorem dksX1_twins_2 : cX1_twins.data.toList.drop 48 = dktX1_twins_2 := dk_seg dksX1_twins_1 24 rfl rfl
theorem dX1_twins_0 : decode cX1_twins 0 = .ok (.iconst 0, 1) := dk_3 (dk_at dksX1_twins_0 0 rfl rfl)
theorem dX1_twins_1 : decode cX1_twins 1 = .ok (.istore_n 1, 1) := dk_60 (dk_at dksX1_twins_0 1 rfl rfl)
theorem dX1_twins_2 : decode cX1_twins 2 = .ok (.iconst 0, 1) := dk_3 (dk_at dksX1_twins_0 2 rfl rfl)
theorem dX1_twins_3 : decode cX1_twins 3 = .ok (.istore_n 2, 1) := dk_61 (dk_at dksX1_twins_0 3 rfl rfl)
theorem dX1_twins_4 : decode cX1_twins 4 = .ok (.iload_n 2, 1) := dk_28 (dk_at dksX1_twins_0 4 rfl rfl)
theorem dX1_twins_5 : decode cX1_twins 5 = .ok (.aload_n 0, 1) := dk_42 (dk_at dksX1_twins_0 5 rfl rfl)
theorem dX1_twins_6 : decode cX1_twins 6 = .ok (.getfield 22, 3) := dk_180 0 22 (dk_at dksX1_twins_0 6 rfl rfl)
theorem dX1_twins_9 : decode cX1_twins 9 = .ok (.getfield 101, 3) := dk_180 0 101 (dk_at dksX1_twins_0 9 rfl rfl)
theorem dX1_twins_12 : decode cX1_twins 12 = .ok (.if_icmp .ge 49, 3) := dk_162 0 49 (dk_at dksX1_twins_0 12 rfl rfl)
theorem dX1_twins_15 : decode cX1_twins 15 = .ok (.iconst 0, 1) := dk_3 (dk_at dksX1_twins_0 15 rfl rfl)
theorem dX1_twins_16 : decode cX1_twins 16 = .ok (.istore_n 3, 1) := dk_62 (dk_at dksX1_twins_0 16 rfl rfl)
theorem dX1_twins_17 : decode cX1_twins 17 = .ok (.iload_n 3, 1) := dk_29 (dk_at dksX1_twins_0 17 rfl rfl)
theorem dX1_twins_18 : decode cX1_twins 18 = .ok (.iload_n 2, 1) := dk_28 (dk_at dksX1_twins_0 18 rfl rfl)
theorem dX1_twins_19 : decode cX1_twins 19 = .ok (.if_icmp .ge 36, 3) := dk_162 0 36 (dk_at dksX1_twins_0 19 rfl rfl)
theorem dX1_twins_22 : decode cX1_twins 22 = .ok (.iload_n 1, 1) := dk_27 (dk_at dksX1_twins_0 22 rfl rfl)
theorem dX1_twins_23 : decode cX1_twins 23 = .ok (.aload_n 0, 1) := dk_42 (dk_at dksX1_twins_0 23 rfl rfl)
theorem dX1_twins_24 : decode cX1_twins 24 = .ok (.getfield 22, 3) := dk_180 0 22 (dk_at dksX1_twins_1 0 rfl rfl)
theorem dX1_twins_27 : decode cX1_twins 27 = .ok (.getfield 112, 3) := dk_180 0 112 (dk_at dksX1_twins_1 3 rfl rfl)
theorem dX1_twins_30 : decode cX1_twins 30 = .ok (.iload_n 2, 1) := dk_28 (dk_at dksX1_twins_1 6 rfl rfl)
theorem dX1_twins_31 : decode cX1_twins 31 = .ok (.aaload, 1) := dk_50 (dk_at dksX1_twins_1 7 rfl rfl)
theorem dX1_twins_32 : decode cX1_twins 32 = .ok (.aload_n 0, 1) := dk_42 (dk_at dksX1_twins_1 8 rfl rfl)
theorem dX1_twins_33 : decode cX1_twins 33 = .ok (.getfield 22, 3) := dk_180 0 22 (dk_at dksX1_twins_1 9 rfl rfl)
theorem dX1_twins_36 : decode cX1_twins 36 = .ok (.getfield 112, 3) := dk_180 0 112 (dk_at dksX1_twins_1 12 rfl rfl)
theorem dX1_twins_39 : decode cX1_twins 39 = .ok (.iload_n 3, 1) := dk_29 (dk_at dksX1_twins_1 15 rfl rfl)
theorem dX1_twins_40 : decode cX1_twins 40 = .ok (.aaload, 1) := dk_50 (dk_at dksX1_twins_1 16 rfl rfl)
theorem dX1_twins_41 : decode cX1_twins 41 = .ok (.invokevirtual 431, 3) := dk_182 1 175 (dk_at dksX1_twins_1 17 rfl rfl)
theorem dX1_twins_44 : decode cX1_twins 44 = .ok (.invokestatic 248, 3) := dk_184 0 248 (dk_at dksX1_twins_1 20 rfl rfl)
theorem dX1_twins_47 : decode cX1_twins 47 = .ok (.iadd, 1) := dk_96 (dk_at dksX1_twins_1 23 rfl rfl)
theorem dX1_twins_48 : decode cX1_twins 48 = .ok (.istore_n 1, 1) := dk_60 (dk_at dksX1_twins_2 0 rfl rfl)
theorem dX1_twins_49 : decode cX1_twins 49 = .ok (.iinc 3 1, 3) := dk_132 3 1 (dk_at dksX1_twins_2 1 rfl rfl)
theorem dX1_twins_52 : decode cX1_twins 52 = .ok (.goto (-35), 3) := dk_167 255 221 (dk_at dksX1_twins_2 4 rfl rfl)
theorem dX1_twins_55 : decode cX1_twins 55 = .ok (.iinc 2 1, 3) := dk_132 2 1 (dk_at dksX1_twins_2 7 rfl rfl)
theorem dX1_twins_58 : decode cX1_twins 58 = .ok (.goto (-54), 3) := dk_167 255 202 (dk_at dksX1_twins_2 10 rfl rfl)
theorem dX1_twins_61 : decode cX1_twins 61 = .ok (.iload_n 1, 1) := dk_27 (dk_at dksX1_twins_2 13 rfl rfl)
theorem dX1_twins_62 : decode cX1_twins 62 = .ok (.ireturn, 1) := dk_172 (dk_at dksX1_twins_2 14 rfl rfl)
abbrev cX1_flag : ByteArray := prog_1_method_28_code
def yX1_flag : MethodName := ⟨RX1, "flag", "(Z)I"⟩
def dkwX1_flag_0 : List UInt8 := [26, 153, 0, 7, 4, 167, 0, 4, 3, 172]
abbrev dktX1_flag_0 : List UInt8 := dkwX1_flag_0 ++ []
theorem dksX1_flag_0 : cX1_flag.data.toList.drop 0 = dktX1_flag_0 := by decide +kernel
theorem dX1_flag_0 : decode cX1_flag 0 = .ok (.iload_n 0, 1) := dk_26 (dk_at dksX1_flag_0 0 rfl rfl)
theorem dX1_flag_1 : decode cX1_flag 1 = .ok (.ifCond .eq 7, 3) := dk_153 0 7 (dk_at dksX1_flag_0 1 rfl rfl)
theorem dX1_flag_4 : decode cX1_flag 4 = .ok (.iconst 1, 1) := dk_4 (dk_at dksX1_flag_0 4 rfl rfl)
theorem dX1_flag_5 : decode cX1_flag 5 = .ok (.goto 4, 3) := dk_167 0 4 (dk_at dksX1_flag_0 5 rfl rfl)
theorem dX1_flag_8 : decode cX1_flag 8 = .ok (.iconst 0, 1) := dk_3 (dk_at dksX1_flag_0 8 rfl rfl)
theorem dX1_flag_9 : decode cX1_flag 9 = .ok (.ireturn, 1) := dk_172 (dk_at dksX1_flag_0 9 rfl rfl)
abbrev cX1_seed : ByteArray := prog_1_method_89_code
def yX1_seed : MethodName := ⟨RX1, "seed", "(I)I"⟩
def dkwX1_seed_0 : List UInt8 := [42, 180, 0, 22, 180, 1, 183, 61, 42, 180, 0, 22, 27, 181, 1, 183, 28, 172]
abbrev dktX1_seed_0 : List UInt8 := dkwX1_seed_0 ++ []
theorem dksX1_seed_0 : cX1_seed.data.toList.drop 0 = dktX1_seed_0 := by decide +kernel
theorem dX1_seed_0 : decode cX1_seed 0 = .ok (.aload_n 0, 1) := dk_42 (dk_at dksX1_seed_0 0 rfl rfl)
theorem dX1_seed_1 : decode cX1_seed 1 = .ok (.getfield 22, 3) := dk_180 0 22 (dk_at dksX1_seed_0 1 rfl rfl)
theorem dX1_seed_4 : decode cX1_seed 4 = .ok (.getfield 439, 3) := dk_180 1 183 (dk_at dksX1_seed_0 4 rfl rfl)
theorem dX1_seed_7 : decode cX1_seed 7 = .ok (.istore_n 2, 1) := dk_61 (dk_at dksX1_seed_0 7 rfl rfl)
theorem dX1_seed_8 : decode cX1_seed 8 = .ok (.aload_n 0, 1) := dk_42 (dk_at dksX1_seed_0 8 rfl rfl)
theorem dX1_seed_9 : decode cX1_seed 9 = .ok (.getfield 22, 3) := dk_180 0 22 (dk_at dksX1_seed_0 9 rfl rfl)
theorem dX1_seed_12 : decode cX1_seed 12 = .ok (.iload_n 1, 1) := dk_27 (dk_at dksX1_seed_0 12 rfl rfl)
theorem dX1_seed_13 : decode cX1_seed 13 = .ok (.putfield 439, 3) := dk_181 1 183 (dk_at dksX1_seed_0 13 rfl rfl)
theorem dX1_seed_16 : decode cX1_seed 16 = .ok (.iload_n 2, 1) := dk_28 (dk_at dksX1_seed_0 16 rfl rfl)
theorem dX1_seed_17 : decode cX1_seed 17 = .ok (.ireturn, 1) := dk_172 (dk_at dksX1_seed_0 17 rfl rfl)
abbrev cX1_undo : ByteArray := prog_1_method_90_code
def yX1_undo : MethodName := ⟨RX1, "undo", "()Z"⟩
def dkwX1_undo_2 : List UInt8 := [182, 0, 153, 4, 172]
abbrev dktX1_undo_2 : List UInt8 := dkwX1_undo_2 ++ []
def dkwX1_undo_1 : List UInt8 := [16, 12, 96, 4, 100, 16, 12, 112, 181, 1, 54, 42, 180, 0, 22, 42, 180, 0, 69, 42, 180, 1, 54, 50]
abbrev dktX1_undo_1 : List UInt8 := dkwX1_undo_1 ++ dktX1_undo_2
def dkwX1_undo_0 : List UInt8 := [42, 180, 0, 157, 154, 0, 5, 3, 172, 42, 89, 180, 0, 157, 4, 100, 181, 0, 157, 42, 42, 180, 1, 54]
abbrev dktX1_undo_0 : List UInt8 := dkwX1_undo_0 ++ dktX1_undo_1
theorem dksX1_undo_0 : cX1_undo.data.toList.drop 0 = dktX1_undo_0 := by decide +kernel
theorem dksX1_undo_1 : cX1_undo.data.toList.drop 24 = dktX1_undo_1 := dk_seg dksX1_undo_0 24 rfl rfl
theorem dksX1_undo_2 : cX1_undo.data.toList.drop 48 = dktX1_undo_2 := dk_seg dksX1_undo_1 24 rfl rfl
theorem dX1_undo_0 : decode cX1_undo 0 = .ok (.aload_n 0, 1) := dk_42 (dk_at dksX1_undo_0 0 rfl rfl)
theorem dX1_undo_1 : decode cX1_undo 1 = .ok (.getfield 157, 3) := dk_180 0 157 (dk_at dksX1_undo_0 1 rfl rfl)
theorem dX1_undo_4 : decode cX1_undo 4 = .ok (.ifCond .ne 5, 3) := dk_154 0 5 (dk_at dksX1_undo_0 4 rfl rfl)
theorem dX1_undo_7 : decode cX1_undo 7 = .ok (.iconst 0, 1) := dk_3 (dk_at dksX1_undo_0 7 rfl rfl)
theorem dX1_undo_8 : decode cX1_undo 8 = .ok (.ireturn, 1) := dk_172 (dk_at dksX1_undo_0 8 rfl rfl)
theorem dX1_undo_9 : decode cX1_undo 9 = .ok (.aload_n 0, 1) := dk_42 (dk_at dksX1_undo_0 9 rfl rfl)
theorem dX1_undo_10 : decode cX1_undo 10 = .ok (.dup, 1) := dk_89 (dk_at dksX1_undo_0 10 rfl rfl)
theorem dX1_undo_11 : decode cX1_undo 11 = .ok (.getfield 157, 3) := dk_180 0 157 (dk_at dksX1_undo_0 11 rfl rfl)
theorem dX1_undo_14 : decode cX1_undo 14 = .ok (.iconst 1, 1) := dk_4 (dk_at dksX1_undo_0 14 rfl rfl)
theorem dX1_undo_15 : decode cX1_undo 15 = .ok (.isub, 1) := dk_100 (dk_at dksX1_undo_0 15 rfl rfl)
theorem dX1_undo_16 : decode cX1_undo 16 = .ok (.putfield 157, 3) := dk_181 0 157 (dk_at dksX1_undo_0 16 rfl rfl)
theorem dX1_undo_19 : decode cX1_undo 19 = .ok (.aload_n 0, 1) := dk_42 (dk_at dksX1_undo_0 19 rfl rfl)
theorem dX1_undo_20 : decode cX1_undo 20 = .ok (.aload_n 0, 1) := dk_42 (dk_at dksX1_undo_0 20 rfl rfl)
theorem dX1_undo_21 : decode cX1_undo 21 = .ok (.getfield 310, 3) := dk_180 1 54 (dk_at dksX1_undo_0 21 rfl rfl)
theorem dX1_undo_24 : decode cX1_undo 24 = .ok (.bipush 12, 2) := dk_16 12 (dk_at dksX1_undo_1 0 rfl rfl)
theorem dX1_undo_26 : decode cX1_undo 26 = .ok (.iadd, 1) := dk_96 (dk_at dksX1_undo_1 2 rfl rfl)
theorem dX1_undo_27 : decode cX1_undo 27 = .ok (.iconst 1, 1) := dk_4 (dk_at dksX1_undo_1 3 rfl rfl)
theorem dX1_undo_28 : decode cX1_undo 28 = .ok (.isub, 1) := dk_100 (dk_at dksX1_undo_1 4 rfl rfl)
theorem dX1_undo_29 : decode cX1_undo 29 = .ok (.bipush 12, 2) := dk_16 12 (dk_at dksX1_undo_1 5 rfl rfl)
theorem dX1_undo_31 : decode cX1_undo 31 = .ok (.irem, 1) := dk_112 (dk_at dksX1_undo_1 7 rfl rfl)
theorem dX1_undo_32 : decode cX1_undo 32 = .ok (.putfield 310, 3) := dk_181 1 54 (dk_at dksX1_undo_1 8 rfl rfl)
theorem dX1_undo_35 : decode cX1_undo 35 = .ok (.aload_n 0, 1) := dk_42 (dk_at dksX1_undo_1 11 rfl rfl)
theorem dX1_undo_36 : decode cX1_undo 36 = .ok (.getfield 22, 3) := dk_180 0 22 (dk_at dksX1_undo_1 12 rfl rfl)
theorem dX1_undo_39 : decode cX1_undo 39 = .ok (.aload_n 0, 1) := dk_42 (dk_at dksX1_undo_1 15 rfl rfl)
theorem dX1_undo_40 : decode cX1_undo 40 = .ok (.getfield 69, 3) := dk_180 0 69 (dk_at dksX1_undo_1 16 rfl rfl)
theorem dX1_undo_43 : decode cX1_undo 43 = .ok (.aload_n 0, 1) := dk_42 (dk_at dksX1_undo_1 19 rfl rfl)
theorem dX1_undo_44 : decode cX1_undo 44 = .ok (.getfield 310, 3) := dk_180 1 54 (dk_at dksX1_undo_1 20 rfl rfl)
theorem dX1_undo_47 : decode cX1_undo 47 = .ok (.aaload, 1) := dk_50 (dk_at dksX1_undo_1 23 rfl rfl)
theorem dX1_undo_48 : decode cX1_undo 48 = .ok (.invokevirtual 153, 3) := dk_182 0 153 (dk_at dksX1_undo_2 0 rfl rfl)
theorem dX1_undo_51 : decode cX1_undo 51 = .ok (.iconst 1, 1) := dk_4 (dk_at dksX1_undo_2 3 rfl rfl)
theorem dX1_undo_52 : decode cX1_undo 52 = .ok (.ireturn, 1) := dk_172 (dk_at dksX1_undo_2 4 rfl rfl)
abbrev cX1_image : ByteArray := prog_1_method_91_code
def yX1_image : MethodName := ⟨RX1, "image", "()V"⟩
def dkwX1_image_0 : List UInt8 := [42, 180, 0, 26, 42, 180, 0, 22, 182, 0, 153, 42, 4, 181, 1, 191, 177]
abbrev dktX1_image_0 : List UInt8 := dkwX1_image_0 ++ []
theorem dksX1_image_0 : cX1_image.data.toList.drop 0 = dktX1_image_0 := by decide +kernel
theorem dX1_image_0 : decode cX1_image 0 = .ok (.aload_n 0, 1) := dk_42 (dk_at dksX1_image_0 0 rfl rfl)
theorem dX1_image_1 : decode cX1_image 1 = .ok (.getfield 26, 3) := dk_180 0 26 (dk_at dksX1_image_0 1 rfl rfl)
theorem dX1_image_4 : decode cX1_image 4 = .ok (.aload_n 0, 1) := dk_42 (dk_at dksX1_image_0 4 rfl rfl)
theorem dX1_image_5 : decode cX1_image 5 = .ok (.getfield 22, 3) := dk_180 0 22 (dk_at dksX1_image_0 5 rfl rfl)
theorem dX1_image_8 : decode cX1_image 8 = .ok (.invokevirtual 153, 3) := dk_182 0 153 (dk_at dksX1_image_0 8 rfl rfl)
theorem dX1_image_11 : decode cX1_image 11 = .ok (.aload_n 0, 1) := dk_42 (dk_at dksX1_image_0 11 rfl rfl)
theorem dX1_image_12 : decode cX1_image 12 = .ok (.iconst 1, 1) := dk_4 (dk_at dksX1_image_0 12 rfl rfl)
theorem dX1_image_13 : decode cX1_image 13 = .ok (.putfield 447, 3) := dk_181 1 191 (dk_at dksX1_image_0 13 rfl rfl)
theorem dX1_image_16 : decode cX1_image 16 = .ok (.return_, 1) := dk_177 (dk_at dksX1_image_0 16 rfl rfl)
abbrev cX1_back : ByteArray := prog_1_method_92_code
def yX1_back : MethodName := ⟨RX1, "back", "()Z"⟩
def dkwX1_back_1 : List UInt8 := [181, 0, 157, 4, 172]
abbrev dktX1_back_1 : List UInt8 := dkwX1_back_1 ++ []
def dkwX1_back_0 : List UInt8 := [42, 180, 1, 191, 154, 0, 5, 3, 172, 42, 180, 0, 22, 42, 180, 0, 26, 182, 0, 153, 42, 3]
abbrev dktX1_back_0 : List UInt8 := dkwX1_back_0 ++ dktX1_back_1
theorem dksX1_back_0 : cX1_back.data.toList.drop 0 = dktX1_back_0 := by decide +kernel
theorem dksX1_back_1 : cX1_back.data.toList.drop 22 = dktX1_back_1 := dk_seg dksX1_back_0 22 rfl rfl
theorem dX1_back_0 : decode cX1_back 0 = .ok (.aload_n 0, 1) := dk_42 (dk_at dksX1_back_0 0 rfl rfl)
theorem dX1_back_1 : decode cX1_back 1 = .ok (.getfield 447, 3) := dk_180 1 191 (dk_at dksX1_back_0 1 rfl rfl)
theorem dX1_back_4 : decode cX1_back 4 = .ok (.ifCond .ne 5, 3) := dk_154 0 5 (dk_at dksX1_back_0 4 rfl rfl)
theorem dX1_back_7 : decode cX1_back 7 = .ok (.iconst 0, 1) := dk_3 (dk_at dksX1_back_0 7 rfl rfl)
theorem dX1_back_8 : decode cX1_back 8 = .ok (.ireturn, 1) := dk_172 (dk_at dksX1_back_0 8 rfl rfl)
theorem dX1_back_9 : decode cX1_back 9 = .ok (.aload_n 0, 1) := dk_42 (dk_at dksX1_back_0 9 rfl rfl)
theorem dX1_back_10 : decode cX1_back 10 = .ok (.getfield 22, 3) := dk_180 0 22 (dk_at dksX1_back_0 10 rfl rfl)
theorem dX1_back_13 : decode cX1_back 13 = .ok (.aload_n 0, 1) := dk_42 (dk_at dksX1_back_0 13 rfl rfl)
theorem dX1_back_14 : decode cX1_back 14 = .ok (.getfield 26, 3) := dk_180 0 26 (dk_at dksX1_back_0 14 rfl rfl)
theorem dX1_back_17 : decode cX1_back 17 = .ok (.invokevirtual 153, 3) := dk_182 0 153 (dk_at dksX1_back_0 17 rfl rfl)
theorem dX1_back_20 : decode cX1_back 20 = .ok (.aload_n 0, 1) := dk_42 (dk_at dksX1_back_0 20 rfl rfl)
theorem dX1_back_21 : decode cX1_back 21 = .ok (.iconst 0, 1) := dk_3 (dk_at dksX1_back_0 21 rfl rfl)
theorem dX1_back_22 : decode cX1_back 22 = .ok (.putfield 157, 3) := dk_181 0 157 (dk_at dksX1_back_1 0 rfl rfl)
theorem dX1_back_25 : decode cX1_back 25 = .ok (.iconst 1, 1) := dk_4 (dk_at dksX1_back_1 3 rfl rfl)
theorem dX1_back_26 : decode cX1_back 26 = .ok (.ireturn, 1) := dk_172 (dk_at dksX1_back_1 4 rfl rfl)
abbrev cX1_count : ByteArray := prog_1_method_93_code
def yX1_count : MethodName := ⟨RX1, "count", "(I)I"⟩
def dkwX1_count_6 : List UInt8 := [180, 0, 157, 172, 2, 172]
abbrev dktX1_count_6 : List UInt8 := dkwX1_count_6 ++ []
def dkwX1_count_5 : List UInt8 := [42, 180, 0, 22, 180, 1, 180, 172, 16, 60, 42, 180, 0, 22, 180, 1, 197, 184, 1, 57, 172, 42]
abbrev dktX1_count_5 : List UInt8 := dkwX1_count_5 ++ dktX1_count_6
def dkwX1_count_4 : List UInt8 := [42, 180, 0, 22, 180, 1, 88, 172, 42, 180, 0, 22, 180, 1, 91, 172, 42, 180, 0, 22, 180, 1, 194, 172]
abbrev dktX1_count_4 : List UInt8 := dkwX1_count_4 ++ dktX1_count_5
def dkwX1_count_3 : List UInt8 := [42, 180, 0, 22, 180, 1, 16, 172, 42, 180, 0, 22, 180, 1, 82, 172, 42, 180, 0, 22, 180, 1, 85, 172]
abbrev dktX1_count_3 : List UInt8 := dkwX1_count_3 ++ dktX1_count_4
def dkwX1_count_2 : List UInt8 := [42, 180, 0, 22, 180, 0, 101, 172, 42, 180, 0, 22, 180, 0, 147, 172, 42, 180, 0, 22, 180, 0, 167, 172]
abbrev dktX1_count_2 : List UInt8 := dkwX1_count_2 ++ dktX1_count_3
def dkwX1_count_1 : List UInt8 := [170, 0, 0, 0, 0, 0, 161, 0, 0, 0, 0, 0, 0, 0, 11, 0, 0, 0, 63, 0, 0, 0, 71, 0, 0, 0, 79, 0, 0, 0, 87, 0, 0, 0, 95, 0, 0, 0, 103, 0, 0, 0, 111, 0, 0, 0, 119, 0, 0, 0, 127, 0, 0, 0, 135, 0, 0, 0, 143, 0, 0, 0, 156]
abbrev dktX1_count_1 : List UInt8 := dkwX1_count_1 ++ dktX1_count_2
def dkwX1_count_0 : List UInt8 := [27]
abbrev dktX1_count_0 : List UInt8 := dkwX1_count_0 ++ dktX1_count_1
theorem dksX1_count_0 : cX1_count.data.toList.drop 0 = dktX1_count_0 := by decide +kernel
theorem dksX1_count_1 : cX1_count.data.toList.drop 1 = dktX1_count_1 := dk_seg dksX1_count_0 1 rfl rfl
theorem dksX1_count_2 : cX1_count.data.toList.drop 64 = dktX1_count_2 := dk_seg dksX1_count_1 63 rfl rfl
theorem dksX1_count_3 : cX1_count.data.toList.drop 88 = dktX1_count_3 := dk_seg dksX1_count_2 24 rfl rfl
theorem dksX1_count_4 : cX1_count.data.toList.drop 112 = dktX1_count_4 := dk_seg dksX1_count_3 24 rfl rfl
theorem dksX1_count_5 : cX1_count.data.toList.drop 136 = dktX1_count_5 := dk_seg dksX1_count_4 24 rfl rfl
theorem dksX1_count_6 : cX1_count.data.toList.drop 158 = dktX1_count_6 := dk_seg dksX1_count_5 22 rfl rfl
theorem dX1_count_0 : decode cX1_count 0 = .ok (.iload_n 1, 1) := dk_27 (dk_at dksX1_count_0 0 rfl rfl)
theorem dX1_count_1 : decode cX1_count 1 = .ok (.tableswitch 161 0 11 #[63, 71, 79, 87, 95, 103, 111, 119, 127, 135, 143, 156], 63) := by decide +kernel
theorem dX1_count_64 : decode cX1_count 64 = .ok (.aload_n 0, 1) := dk_42 (dk_at dksX1_count_2 0 rfl rfl)
theorem dX1_count_65 : decode cX1_count 65 = .ok (.getfield 22, 3) := dk_180 0 22 (dk_at dksX1_count_2 1 rfl rfl)
theorem dX1_count_68 : decode cX1_count 68 = .ok (.getfield 101, 3) := dk_180 0 101 (dk_at dksX1_count_2 4 rfl rfl)
theorem dX1_count_71 : decode cX1_count 71 = .ok (.ireturn, 1) := dk_172 (dk_at dksX1_count_2 7 rfl rfl)
theorem dX1_count_72 : decode cX1_count 72 = .ok (.aload_n 0, 1) := dk_42 (dk_at dksX1_count_2 8 rfl rfl)
theorem dX1_count_73 : decode cX1_count 73 = .ok (.getfield 22, 3) := dk_180 0 22 (dk_at dksX1_count_2 9 rfl rfl)
theorem dX1_count_76 : decode cX1_count 76 = .ok (.getfield 147, 3) := dk_180 0 147 (dk_at dksX1_count_2 12 rfl rfl)
theorem dX1_count_79 : decode cX1_count 79 = .ok (.ireturn, 1) := dk_172 (dk_at dksX1_count_2 15 rfl rfl)
theorem dX1_count_80 : decode cX1_count 80 = .ok (.aload_n 0, 1) := dk_42 (dk_at dksX1_count_2 16 rfl rfl)
theorem dX1_count_81 : decode cX1_count 81 = .ok (.getfield 22, 3) := dk_180 0 22 (dk_at dksX1_count_2 17 rfl rfl)
theorem dX1_count_84 : decode cX1_count 84 = .ok (.getfield 167, 3) := dk_180 0 167 (dk_at dksX1_count_2 20 rfl rfl)
theorem dX1_count_87 : decode cX1_count 87 = .ok (.ireturn, 1) := dk_172 (dk_at dksX1_count_2 23 rfl rfl)
theorem dX1_count_88 : decode cX1_count 88 = .ok (.aload_n 0, 1) := dk_42 (dk_at dksX1_count_3 0 rfl rfl)
theorem dX1_count_89 : decode cX1_count 89 = .ok (.getfield 22, 3) := dk_180 0 22 (dk_at dksX1_count_3 1 rfl rfl)
theorem dX1_count_92 : decode cX1_count 92 = .ok (.getfield 272, 3) := dk_180 1 16 (dk_at dksX1_count_3 4 rfl rfl)
theorem dX1_count_95 : decode cX1_count 95 = .ok (.ireturn, 1) := dk_172 (dk_at dksX1_count_3 7 rfl rfl)
theorem dX1_count_96 : decode cX1_count 96 = .ok (.aload_n 0, 1) := dk_42 (dk_at dksX1_count_3 8 rfl rfl)
theorem dX1_count_97 : decode cX1_count 97 = .ok (.getfield 22, 3) := dk_180 0 22 (dk_at dksX1_count_3 9 rfl rfl)
theorem dX1_count_100 : decode cX1_count 100 = .ok (.getfield 338, 3) := dk_180 1 82 (dk_at dksX1_count_3 12 rfl rfl)
theorem dX1_count_103 : decode cX1_count 103 = .ok (.ireturn, 1) := dk_172 (dk_at dksX1_count_3 15 rfl rfl)
theorem dX1_count_104 : decode cX1_count 104 = .ok (.aload_n 0, 1) := dk_42 (dk_at dksX1_count_3 16 rfl rfl)
theorem dX1_count_105 : decode cX1_count 105 = .ok (.getfield 22, 3) := dk_180 0 22 (dk_at dksX1_count_3 17 rfl rfl)
theorem dX1_count_108 : decode cX1_count 108 = .ok (.getfield 341, 3) := dk_180 1 85 (dk_at dksX1_count_3 20 rfl rfl)
theorem dX1_count_111 : decode cX1_count 111 = .ok (.ireturn, 1) := dk_172 (dk_at dksX1_count_3 23 rfl rfl)
theorem dX1_count_112 : decode cX1_count 112 = .ok (.aload_n 0, 1) := dk_42 (dk_at dksX1_count_4 0 rfl rfl)
theorem dX1_count_113 : decode cX1_count 113 = .ok (.getfield 22, 3) := dk_180 0 22 (dk_at dksX1_count_4 1 rfl rfl)
theorem dX1_count_116 : decode cX1_count 116 = .ok (.getfield 344, 3) := dk_180 1 88 (dk_at dksX1_count_4 4 rfl rfl)
theorem dX1_count_119 : decode cX1_count 119 = .ok (.ireturn, 1) := dk_172 (dk_at dksX1_count_4 7 rfl rfl)
theorem dX1_count_120 : decode cX1_count 120 = .ok (.aload_n 0, 1) := dk_42 (dk_at dksX1_count_4 8 rfl rfl)
theorem dX1_count_121 : decode cX1_count 121 = .ok (.getfield 22, 3) := dk_180 0 22 (dk_at dksX1_count_4 9 rfl rfl)
theorem dX1_count_124 : decode cX1_count 124 = .ok (.getfield 347, 3) := dk_180 1 91 (dk_at dksX1_count_4 12 rfl rfl)
theorem dX1_count_127 : decode cX1_count 127 = .ok (.ireturn, 1) := dk_172 (dk_at dksX1_count_4 15 rfl rfl)
theorem dX1_count_128 : decode cX1_count 128 = .ok (.aload_n 0, 1) := dk_42 (dk_at dksX1_count_4 16 rfl rfl)
theorem dX1_count_129 : decode cX1_count 129 = .ok (.getfield 22, 3) := dk_180 0 22 (dk_at dksX1_count_4 17 rfl rfl)
theorem dX1_count_132 : decode cX1_count 132 = .ok (.getfield 450, 3) := dk_180 1 194 (dk_at dksX1_count_4 20 rfl rfl)
theorem dX1_count_135 : decode cX1_count 135 = .ok (.ireturn, 1) := dk_172 (dk_at dksX1_count_4 23 rfl rfl)
theorem dX1_count_136 : decode cX1_count 136 = .ok (.aload_n 0, 1) := dk_42 (dk_at dksX1_count_5 0 rfl rfl)
theorem dX1_count_137 : decode cX1_count 137 = .ok (.getfield 22, 3) := dk_180 0 22 (dk_at dksX1_count_5 1 rfl rfl)
theorem dX1_count_140 : decode cX1_count 140 = .ok (.getfield 436, 3) := dk_180 1 180 (dk_at dksX1_count_5 4 rfl rfl)
theorem dX1_count_143 : decode cX1_count 143 = .ok (.ireturn, 1) := dk_172 (dk_at dksX1_count_5 7 rfl rfl)
theorem dX1_count_144 : decode cX1_count 144 = .ok (.bipush 60, 2) := dk_16 60 (dk_at dksX1_count_5 8 rfl rfl)
theorem dX1_count_146 : decode cX1_count 146 = .ok (.aload_n 0, 1) := dk_42 (dk_at dksX1_count_5 10 rfl rfl)
theorem dX1_count_147 : decode cX1_count 147 = .ok (.getfield 22, 3) := dk_180 0 22 (dk_at dksX1_count_5 11 rfl rfl)
theorem dX1_count_150 : decode cX1_count 150 = .ok (.getfield 453, 3) := dk_180 1 197 (dk_at dksX1_count_5 14 rfl rfl)
theorem dX1_count_153 : decode cX1_count 153 = .ok (.invokestatic 313, 3) := dk_184 1 57 (dk_at dksX1_count_5 17 rfl rfl)
theorem dX1_count_156 : decode cX1_count 156 = .ok (.ireturn, 1) := dk_172 (dk_at dksX1_count_5 20 rfl rfl)
theorem dX1_count_157 : decode cX1_count 157 = .ok (.aload_n 0, 1) := dk_42 (dk_at dksX1_count_5 21 rfl rfl)
theorem dX1_count_158 : decode cX1_count 158 = .ok (.getfield 157, 3) := dk_180 0 157 (dk_at dksX1_count_6 0 rfl rfl)
theorem dX1_count_161 : decode cX1_count 161 = .ok (.ireturn, 1) := dk_172 (dk_at dksX1_count_6 3 rfl rfl)
theorem dX1_count_162 : decode cX1_count 162 = .ok (.iconst (-1), 1) := dk_2 (dk_at dksX1_count_6 4 rfl rfl)
theorem dX1_count_163 : decode cX1_count 163 = .ok (.ireturn, 1) := dk_172 (dk_at dksX1_count_6 5 rfl rfl)
abbrev cX1_bench : ByteArray := prog_1_method_18_code
def yX1_bench : MethodName := ⟨RX1, "bench", "()I"⟩
def dkwX1_bench_4 : List UInt8 := [42, 180, 0, 22, 180, 0, 79, 182, 0, 82, 42, 180, 0, 22, 180, 0, 147, 172]
abbrev dktX1_bench_4 : List UInt8 := dkwX1_bench_4 ++ []
def dkwX1_bench_3 : List UInt8 := [96, 181, 0, 147, 42, 3, 181, 0, 157, 42, 182, 0, 160, 42, 180, 0, 22, 42, 180, 0, 22, 180, 0, 76]
abbrev dktX1_bench_3 : List UInt8 := dkwX1_bench_3 ++ dktX1_bench_4
def dkwX1_bench_2 : List UInt8 := [167, 0, 4, 3, 184, 0, 150, 42, 180, 0, 22, 44, 182, 0, 153, 42, 180, 0, 22, 89, 180, 0, 147, 4]
abbrev dktX1_bench_2 : List UInt8 := dkwX1_bench_2 ++ dktX1_bench_3
def dkwX1_bench_1 : List UInt8 := [167, 0, 10, 78, 42, 45, 182, 0, 143, 191, 42, 180, 0, 22, 180, 0, 147, 16, 12, 162, 0, 7, 4]
abbrev dktX1_bench_1 : List UInt8 := dkwX1_bench_1 ++ dktX1_bench_2
def dkwX1_bench_0 : List UInt8 := [42, 182, 0, 135, 60, 42, 2, 181, 0, 65, 42, 180, 0, 15, 27, 42, 180, 0, 22, 182, 0, 139, 77]
abbrev dktX1_bench_0 : List UInt8 := dkwX1_bench_0 ++ dktX1_bench_1
theorem dksX1_bench_0 : cX1_bench.data.toList.drop 0 = dktX1_bench_0 := by decide +kernel
theorem dksX1_bench_1 : cX1_bench.data.toList.drop 23 = dktX1_bench_1 := dk_seg dksX1_bench_0 23 rfl rfl
theorem dksX1_bench_2 : cX1_bench.data.toList.drop 46 = dktX1_bench_2 := dk_seg dksX1_bench_1 23 rfl rfl
theorem dksX1_bench_3 : cX1_bench.data.toList.drop 70 = dktX1_bench_3 := dk_seg dksX1_bench_2 24 rfl rfl
theorem dksX1_bench_4 : cX1_bench.data.toList.drop 94 = dktX1_bench_4 := dk_seg dksX1_bench_3 24 rfl rfl
theorem dX1_bench_0 : decode cX1_bench 0 = .ok (.aload_n 0, 1) := dk_42 (dk_at dksX1_bench_0 0 rfl rfl)
theorem dX1_bench_1 : decode cX1_bench 1 = .ok (.invokevirtual 135, 3) := dk_182 0 135 (dk_at dksX1_bench_0 1 rfl rfl)
theorem dX1_bench_4 : decode cX1_bench 4 = .ok (.istore_n 1, 1) := dk_60 (dk_at dksX1_bench_0 4 rfl rfl)
theorem dX1_bench_5 : decode cX1_bench 5 = .ok (.aload_n 0, 1) := dk_42 (dk_at dksX1_bench_0 5 rfl rfl)
theorem dX1_bench_6 : decode cX1_bench 6 = .ok (.iconst (-1), 1) := dk_2 (dk_at dksX1_bench_0 6 rfl rfl)
theorem dX1_bench_7 : decode cX1_bench 7 = .ok (.putfield 65, 3) := dk_181 0 65 (dk_at dksX1_bench_0 7 rfl rfl)
theorem dX1_bench_10 : decode cX1_bench 10 = .ok (.aload_n 0, 1) := dk_42 (dk_at dksX1_bench_0 10 rfl rfl)
theorem dX1_bench_11 : decode cX1_bench 11 = .ok (.getfield 15, 3) := dk_180 0 15 (dk_at dksX1_bench_0 11 rfl rfl)
theorem dX1_bench_14 : decode cX1_bench 14 = .ok (.iload_n 1, 1) := dk_27 (dk_at dksX1_bench_0 14 rfl rfl)
theorem dX1_bench_15 : decode cX1_bench 15 = .ok (.aload_n 0, 1) := dk_42 (dk_at dksX1_bench_0 15 rfl rfl)
theorem dX1_bench_16 : decode cX1_bench 16 = .ok (.getfield 22, 3) := dk_180 0 22 (dk_at dksX1_bench_0 16 rfl rfl)
theorem dX1_bench_19 : decode cX1_bench 19 = .ok (.invokevirtual 139, 3) := dk_182 0 139 (dk_at dksX1_bench_0 19 rfl rfl)
theorem dX1_bench_22 : decode cX1_bench 22 = .ok (.astore_n 2, 1) := dk_77 (dk_at dksX1_bench_0 22 rfl rfl)
theorem dX1_bench_23 : decode cX1_bench 23 = .ok (.goto 10, 3) := dk_167 0 10 (dk_at dksX1_bench_1 0 rfl rfl)
theorem dX1_bench_26 : decode cX1_bench 26 = .ok (.astore_n 3, 1) := dk_78 (dk_at dksX1_bench_1 3 rfl rfl)
theorem dX1_bench_27 : decode cX1_bench 27 = .ok (.aload_n 0, 1) := dk_42 (dk_at dksX1_bench_1 4 rfl rfl)
theorem dX1_bench_28 : decode cX1_bench 28 = .ok (.aload_n 3, 1) := dk_45 (dk_at dksX1_bench_1 5 rfl rfl)
theorem dX1_bench_29 : decode cX1_bench 29 = .ok (.invokevirtual 143, 3) := dk_182 0 143 (dk_at dksX1_bench_1 6 rfl rfl)
theorem dX1_bench_32 : decode cX1_bench 32 = .ok (.athrow, 1) := dk_191 (dk_at dksX1_bench_1 9 rfl rfl)
theorem dX1_bench_33 : decode cX1_bench 33 = .ok (.aload_n 0, 1) := dk_42 (dk_at dksX1_bench_1 10 rfl rfl)
theorem dX1_bench_34 : decode cX1_bench 34 = .ok (.getfield 22, 3) := dk_180 0 22 (dk_at dksX1_bench_1 11 rfl rfl)
theorem dX1_bench_37 : decode cX1_bench 37 = .ok (.getfield 147, 3) := dk_180 0 147 (dk_at dksX1_bench_1 14 rfl rfl)
theorem dX1_bench_40 : decode cX1_bench 40 = .ok (.bipush 12, 2) := dk_16 12 (dk_at dksX1_bench_1 17 rfl rfl)
theorem dX1_bench_42 : decode cX1_bench 42 = .ok (.if_icmp .ge 7, 3) := dk_162 0 7 (dk_at dksX1_bench_1 19 rfl rfl)
theorem dX1_bench_45 : decode cX1_bench 45 = .ok (.iconst 1, 1) := dk_4 (dk_at dksX1_bench_1 22 rfl rfl)
theorem dX1_bench_46 : decode cX1_bench 46 = .ok (.goto 4, 3) := dk_167 0 4 (dk_at dksX1_bench_2 0 rfl rfl)
theorem dX1_bench_49 : decode cX1_bench 49 = .ok (.iconst 0, 1) := dk_3 (dk_at dksX1_bench_2 3 rfl rfl)
theorem dX1_bench_50 : decode cX1_bench 50 = .ok (.invokestatic 150, 3) := dk_184 0 150 (dk_at dksX1_bench_2 4 rfl rfl)
theorem dX1_bench_53 : decode cX1_bench 53 = .ok (.aload_n 0, 1) := dk_42 (dk_at dksX1_bench_2 7 rfl rfl)
theorem dX1_bench_54 : decode cX1_bench 54 = .ok (.getfield 22, 3) := dk_180 0 22 (dk_at dksX1_bench_2 8 rfl rfl)
theorem dX1_bench_57 : decode cX1_bench 57 = .ok (.aload_n 2, 1) := dk_44 (dk_at dksX1_bench_2 11 rfl rfl)
theorem dX1_bench_58 : decode cX1_bench 58 = .ok (.invokevirtual 153, 3) := dk_182 0 153 (dk_at dksX1_bench_2 12 rfl rfl)
theorem dX1_bench_61 : decode cX1_bench 61 = .ok (.aload_n 0, 1) := dk_42 (dk_at dksX1_bench_2 15 rfl rfl)
theorem dX1_bench_62 : decode cX1_bench 62 = .ok (.getfield 22, 3) := dk_180 0 22 (dk_at dksX1_bench_2 16 rfl rfl)
theorem dX1_bench_65 : decode cX1_bench 65 = .ok (.dup, 1) := dk_89 (dk_at dksX1_bench_2 19 rfl rfl)
theorem dX1_bench_66 : decode cX1_bench 66 = .ok (.getfield 147, 3) := dk_180 0 147 (dk_at dksX1_bench_2 20 rfl rfl)
theorem dX1_bench_69 : decode cX1_bench 69 = .ok (.iconst 1, 1) := dk_4 (dk_at dksX1_bench_2 23 rfl rfl)
theorem dX1_bench_70 : decode cX1_bench 70 = .ok (.iadd, 1) := dk_96 (dk_at dksX1_bench_3 0 rfl rfl)
theorem dX1_bench_71 : decode cX1_bench 71 = .ok (.putfield 147, 3) := dk_181 0 147 (dk_at dksX1_bench_3 1 rfl rfl)
theorem dX1_bench_74 : decode cX1_bench 74 = .ok (.aload_n 0, 1) := dk_42 (dk_at dksX1_bench_3 4 rfl rfl)
theorem dX1_bench_75 : decode cX1_bench 75 = .ok (.iconst 0, 1) := dk_3 (dk_at dksX1_bench_3 5 rfl rfl)
theorem dX1_bench_76 : decode cX1_bench 76 = .ok (.putfield 157, 3) := dk_181 0 157 (dk_at dksX1_bench_3 6 rfl rfl)
theorem dX1_bench_79 : decode cX1_bench 79 = .ok (.aload_n 0, 1) := dk_42 (dk_at dksX1_bench_3 9 rfl rfl)
theorem dX1_bench_80 : decode cX1_bench 80 = .ok (.invokevirtual 160, 3) := dk_182 0 160 (dk_at dksX1_bench_3 10 rfl rfl)
theorem dX1_bench_83 : decode cX1_bench 83 = .ok (.aload_n 0, 1) := dk_42 (dk_at dksX1_bench_3 13 rfl rfl)
theorem dX1_bench_84 : decode cX1_bench 84 = .ok (.getfield 22, 3) := dk_180 0 22 (dk_at dksX1_bench_3 14 rfl rfl)
theorem dX1_bench_87 : decode cX1_bench 87 = .ok (.aload_n 0, 1) := dk_42 (dk_at dksX1_bench_3 17 rfl rfl)
theorem dX1_bench_88 : decode cX1_bench 88 = .ok (.getfield 22, 3) := dk_180 0 22 (dk_at dksX1_bench_3 18 rfl rfl)
theorem dX1_bench_91 : decode cX1_bench 91 = .ok (.getfield 76, 3) := dk_180 0 76 (dk_at dksX1_bench_3 21 rfl rfl)
theorem dX1_bench_94 : decode cX1_bench 94 = .ok (.aload_n 0, 1) := dk_42 (dk_at dksX1_bench_4 0 rfl rfl)
theorem dX1_bench_95 : decode cX1_bench 95 = .ok (.getfield 22, 3) := dk_180 0 22 (dk_at dksX1_bench_4 1 rfl rfl)
theorem dX1_bench_98 : decode cX1_bench 98 = .ok (.getfield 79, 3) := dk_180 0 79 (dk_at dksX1_bench_4 4 rfl rfl)
theorem dX1_bench_101 : decode cX1_bench 101 = .ok (.invokevirtual 82, 3) := dk_182 0 82 (dk_at dksX1_bench_4 7 rfl rfl)
theorem dX1_bench_104 : decode cX1_bench 104 = .ok (.aload_n 0, 1) := dk_42 (dk_at dksX1_bench_4 10 rfl rfl)
theorem dX1_bench_105 : decode cX1_bench 105 = .ok (.getfield 22, 3) := dk_180 0 22 (dk_at dksX1_bench_4 11 rfl rfl)
theorem dX1_bench_108 : decode cX1_bench 108 = .ok (.getfield 147, 3) := dk_180 0 147 (dk_at dksX1_bench_4 14 rfl rfl)
theorem dX1_bench_111 : decode cX1_bench 111 = .ok (.ireturn, 1) := dk_172 (dk_at dksX1_bench_4 17 rfl rfl)
abbrev cX1_took : ByteArray := prog_1_method_16_code
def yX1_took : MethodName := ⟨RX1, "took", "()I"⟩
def dkwX1_took_0 : List UInt8 := [42, 180, 0, 15, 180, 0, 123, 60, 42, 180, 0, 15, 3, 181, 0, 123, 27, 172]
abbrev dktX1_took_0 : List UInt8 := dkwX1_took_0 ++ []
theorem dksX1_took_0 : cX1_took.data.toList.drop 0 = dktX1_took_0 := by decide +kernel
theorem dX1_took_0 : decode cX1_took 0 = .ok (.aload_n 0, 1) := dk_42 (dk_at dksX1_took_0 0 rfl rfl)
theorem dX1_took_1 : decode cX1_took 1 = .ok (.getfield 15, 3) := dk_180 0 15 (dk_at dksX1_took_0 1 rfl rfl)
theorem dX1_took_4 : decode cX1_took 4 = .ok (.getfield 123, 3) := dk_180 0 123 (dk_at dksX1_took_0 4 rfl rfl)
theorem dX1_took_7 : decode cX1_took 7 = .ok (.istore_n 1, 1) := dk_60 (dk_at dksX1_took_0 7 rfl rfl)
theorem dX1_took_8 : decode cX1_took 8 = .ok (.aload_n 0, 1) := dk_42 (dk_at dksX1_took_0 8 rfl rfl)
theorem dX1_took_9 : decode cX1_took 9 = .ok (.getfield 15, 3) := dk_180 0 15 (dk_at dksX1_took_0 9 rfl rfl)
theorem dX1_took_12 : decode cX1_took 12 = .ok (.iconst 0, 1) := dk_3 (dk_at dksX1_took_0 12 rfl rfl)
theorem dX1_took_13 : decode cX1_took 13 = .ok (.putfield 123, 3) := dk_181 0 123 (dk_at dksX1_took_0 13 rfl rfl)
theorem dX1_took_16 : decode cX1_took 16 = .ok (.iload_n 1, 1) := dk_27 (dk_at dksX1_took_0 16 rfl rfl)
theorem dX1_took_17 : decode cX1_took 17 = .ok (.ireturn, 1) := dk_172 (dk_at dksX1_took_0 17 rfl rfl)
abbrev cX1_isAny : ByteArray := prog_1_method_1_code
def yX1_isAny : MethodName := ⟨RX1, "isAny", "(I[I)Z"⟩
def dkwX1_isAny_1 : List UInt8 := [172]
abbrev dktX1_isAny_1 : List UInt8 := dkwX1_isAny_1 ++ []
def dkwX1_isAny_0 : List UInt8 := [3, 61, 28, 43, 190, 162, 0, 18, 43, 28, 46, 26, 160, 0, 5, 4, 172, 132, 2, 1, 167, 255, 238, 3]
abbrev dktX1_isAny_0 : List UInt8 := dkwX1_isAny_0 ++ dktX1_isAny_1
theorem dksX1_isAny_0 : cX1_isAny.data.toList.drop 0 = dktX1_isAny_0 := by decide +kernel
theorem dksX1_isAny_1 : cX1_isAny.data.toList.drop 24 = dktX1_isAny_1 := dk_seg dksX1_isAny_0 24 rfl rfl
theorem dX1_isAny_0 : decode cX1_isAny 0 = .ok (.iconst 0, 1) := dk_3 (dk_at dksX1_isAny_0 0 rfl rfl)
theorem dX1_isAny_1 : decode cX1_isAny 1 = .ok (.istore_n 2, 1) := dk_61 (dk_at dksX1_isAny_0 1 rfl rfl)
theorem dX1_isAny_2 : decode cX1_isAny 2 = .ok (.iload_n 2, 1) := dk_28 (dk_at dksX1_isAny_0 2 rfl rfl)
theorem dX1_isAny_3 : decode cX1_isAny 3 = .ok (.aload_n 1, 1) := dk_43 (dk_at dksX1_isAny_0 3 rfl rfl)
theorem dX1_isAny_4 : decode cX1_isAny 4 = .ok (.arraylength, 1) := dk_190 (dk_at dksX1_isAny_0 4 rfl rfl)
theorem dX1_isAny_5 : decode cX1_isAny 5 = .ok (.if_icmp .ge 18, 3) := dk_162 0 18 (dk_at dksX1_isAny_0 5 rfl rfl)
theorem dX1_isAny_8 : decode cX1_isAny 8 = .ok (.aload_n 1, 1) := dk_43 (dk_at dksX1_isAny_0 8 rfl rfl)
theorem dX1_isAny_9 : decode cX1_isAny 9 = .ok (.iload_n 2, 1) := dk_28 (dk_at dksX1_isAny_0 9 rfl rfl)
theorem dX1_isAny_10 : decode cX1_isAny 10 = .ok (.iaload, 1) := dk_46 (dk_at dksX1_isAny_0 10 rfl rfl)
theorem dX1_isAny_11 : decode cX1_isAny 11 = .ok (.iload_n 0, 1) := dk_26 (dk_at dksX1_isAny_0 11 rfl rfl)
theorem dX1_isAny_12 : decode cX1_isAny 12 = .ok (.if_icmp .ne 5, 3) := dk_160 0 5 (dk_at dksX1_isAny_0 12 rfl rfl)
theorem dX1_isAny_15 : decode cX1_isAny 15 = .ok (.iconst 1, 1) := dk_4 (dk_at dksX1_isAny_0 15 rfl rfl)
theorem dX1_isAny_16 : decode cX1_isAny 16 = .ok (.ireturn, 1) := dk_172 (dk_at dksX1_isAny_0 16 rfl rfl)
theorem dX1_isAny_17 : decode cX1_isAny 17 = .ok (.iinc 2 1, 3) := dk_132 2 1 (dk_at dksX1_isAny_0 17 rfl rfl)
theorem dX1_isAny_20 : decode cX1_isAny 20 = .ok (.goto (-18), 3) := dk_167 255 238 (dk_at dksX1_isAny_0 20 rfl rfl)
theorem dX1_isAny_23 : decode cX1_isAny 23 = .ok (.iconst 0, 1) := dk_3 (dk_at dksX1_isAny_0 23 rfl rfl)
theorem dX1_isAny_24 : decode cX1_isAny 24 = .ok (.ireturn, 1) := dk_172 (dk_at dksX1_isAny_1 0 rfl rfl)
abbrev cX1_isWrong : ByteArray := prog_1_method_17_code
def yX1_isWrong : MethodName := ⟨RX1, "isWrong", "(LGuestView$Wrong;)Ljava/lang/IllegalArgumentException;"⟩
def dkwX1_isWrong_0 : List UInt8 := [42, 43, 180, 0, 130, 181, 0, 65, 187, 0, 86, 89, 183, 0, 88, 176]
abbrev dktX1_isWrong_0 : List UInt8 := dkwX1_isWrong_0 ++ []
theorem dksX1_isWrong_0 : cX1_isWrong.data.toList.drop 0 = dktX1_isWrong_0 := by decide +kernel
theorem dX1_isWrong_0 : decode cX1_isWrong 0 = .ok (.aload_n 0, 1) := dk_42 (dk_at dksX1_isWrong_0 0 rfl rfl)
theorem dX1_isWrong_1 : decode cX1_isWrong 1 = .ok (.aload_n 1, 1) := dk_43 (dk_at dksX1_isWrong_0 1 rfl rfl)
theorem dX1_isWrong_2 : decode cX1_isWrong 2 = .ok (.getfield 130, 3) := dk_180 0 130 (dk_at dksX1_isWrong_0 2 rfl rfl)
theorem dX1_isWrong_5 : decode cX1_isWrong 5 = .ok (.putfield 65, 3) := dk_181 0 65 (dk_at dksX1_isWrong_0 5 rfl rfl)
theorem dX1_isWrong_8 : decode cX1_isWrong 8 = .ok (.new 86, 3) := dk_187 0 86 (dk_at dksX1_isWrong_0 8 rfl rfl)
theorem dX1_isWrong_11 : decode cX1_isWrong 11 = .ok (.dup, 1) := dk_89 (dk_at dksX1_isWrong_0 11 rfl rfl)
theorem dX1_isWrong_12 : decode cX1_isWrong 12 = .ok (.invokespecial 88, 3) := dk_183 0 88 (dk_at dksX1_isWrong_0 12 rfl rfl)
theorem dX1_isWrong_15 : decode cX1_isWrong 15 = .ok (.areturn, 1) := dk_176 (dk_at dksX1_isWrong_0 15 rfl rfl)
abbrev cX1_mayBe : ByteArray := prog_1_method_5_code
def yX1_mayBe : MethodName := ⟨RX1, "mayBe", "(Z)V"⟩
def dkwX1_mayBe_0 : List UInt8 := [26, 154, 0, 11, 187, 0, 89, 89, 183, 0, 91, 191, 177]
abbrev dktX1_mayBe_0 : List UInt8 := dkwX1_mayBe_0 ++ []
theorem dksX1_mayBe_0 : cX1_mayBe.data.toList.drop 0 = dktX1_mayBe_0 := by decide +kernel
theorem dX1_mayBe_0 : decode cX1_mayBe 0 = .ok (.iload_n 0, 1) := dk_26 (dk_at dksX1_mayBe_0 0 rfl rfl)
theorem dX1_mayBe_1 : decode cX1_mayBe 1 = .ok (.ifCond .ne 11, 3) := dk_154 0 11 (dk_at dksX1_mayBe_0 1 rfl rfl)
theorem dX1_mayBe_4 : decode cX1_mayBe 4 = .ok (.new 89, 3) := dk_187 0 89 (dk_at dksX1_mayBe_0 4 rfl rfl)
theorem dX1_mayBe_7 : decode cX1_mayBe 7 = .ok (.dup, 1) := dk_89 (dk_at dksX1_mayBe_0 7 rfl rfl)
theorem dX1_mayBe_8 : decode cX1_mayBe 8 = .ok (.invokespecial 91, 3) := dk_183 0 91 (dk_at dksX1_mayBe_0 8 rfl rfl)
theorem dX1_mayBe_11 : decode cX1_mayBe 11 = .ok (.athrow, 1) := dk_191 (dk_at dksX1_mayBe_0 11 rfl rfl)
theorem dX1_mayBe_12 : decode cX1_mayBe 12 = .ok (.return_, 1) := dk_177 (dk_at dksX1_mayBe_0 12 rfl rfl)
abbrev cX1_allTried : ByteArray := prog_1_method_27_code
def yX1_allTried : MethodName := ⟨RX1, "allTried", "()V"⟩
def dkwX1_allTried_2 : List UInt8 := [132, 2, 1, 167, 255, 220, 132, 1, 1, 167, 255, 201, 177]
abbrev dktX1_allTried_2 : List UInt8 := dkwX1_allTried_2 ++ []
def dkwX1_allTried_1 : List UInt8 := [180, 0, 112, 27, 50, 180, 0, 233, 28, 42, 42, 180, 0, 22, 180, 0, 112, 27, 50, 28, 182, 0, 236, 79]
abbrev dktX1_allTried_1 : List UInt8 := dkwX1_allTried_1 ++ dktX1_allTried_2
def dkwX1_allTried_0 : List UInt8 := [3, 60, 27, 42, 180, 0, 22, 180, 0, 101, 162, 0, 50, 3, 61, 28, 7, 162, 0, 37, 42, 180, 0, 22]
abbrev dktX1_allTried_0 : List UInt8 := dkwX1_allTried_0 ++ dktX1_allTried_1
theorem dksX1_allTried_0 : cX1_allTried.data.toList.drop 0 = dktX1_allTried_0 := by decide +kernel
theorem dksX1_allTried_1 : cX1_allTried.data.toList.drop 24 = dktX1_allTried_1 := dk_seg dksX1_allTried_0 24 rfl rfl
theorem dksX1_allTried_2 : cX1_allTried.data.toList.drop 48 = dktX1_allTried_2 := dk_seg dksX1_allTried_1 24 rfl rfl
theorem dX1_allTried_0 : decode cX1_allTried 0 = .ok (.iconst 0, 1) := dk_3 (dk_at dksX1_allTried_0 0 rfl rfl)
theorem dX1_allTried_1 : decode cX1_allTried 1 = .ok (.istore_n 1, 1) := dk_60 (dk_at dksX1_allTried_0 1 rfl rfl)
theorem dX1_allTried_2 : decode cX1_allTried 2 = .ok (.iload_n 1, 1) := dk_27 (dk_at dksX1_allTried_0 2 rfl rfl)
theorem dX1_allTried_3 : decode cX1_allTried 3 = .ok (.aload_n 0, 1) := dk_42 (dk_at dksX1_allTried_0 3 rfl rfl)
theorem dX1_allTried_4 : decode cX1_allTried 4 = .ok (.getfield 22, 3) := dk_180 0 22 (dk_at dksX1_allTried_0 4 rfl rfl)
theorem dX1_allTried_7 : decode cX1_allTried 7 = .ok (.getfield 101, 3) := dk_180 0 101 (dk_at dksX1_allTried_0 7 rfl rfl)
theorem dX1_allTried_10 : decode cX1_allTried 10 = .ok (.if_icmp .ge 50, 3) := dk_162 0 50 (dk_at dksX1_allTried_0 10 rfl rfl)
theorem dX1_allTried_13 : decode cX1_allTried 13 = .ok (.iconst 0, 1) := dk_3 (dk_at dksX1_allTried_0 13 rfl rfl)
theorem dX1_allTried_14 : decode cX1_allTried 14 = .ok (.istore_n 2, 1) := dk_61 (dk_at dksX1_allTried_0 14 rfl rfl)
theorem dX1_allTried_15 : decode cX1_allTried 15 = .ok (.iload_n 2, 1) := dk_28 (dk_at dksX1_allTried_0 15 rfl rfl)
theorem dX1_allTried_16 : decode cX1_allTried 16 = .ok (.iconst 4, 1) := dk_7 (dk_at dksX1_allTried_0 16 rfl rfl)
theorem dX1_allTried_17 : decode cX1_allTried 17 = .ok (.if_icmp .ge 37, 3) := dk_162 0 37 (dk_at dksX1_allTried_0 17 rfl rfl)
theorem dX1_allTried_20 : decode cX1_allTried 20 = .ok (.aload_n 0, 1) := dk_42 (dk_at dksX1_allTried_0 20 rfl rfl)
theorem dX1_allTried_21 : decode cX1_allTried 21 = .ok (.getfield 22, 3) := dk_180 0 22 (dk_at dksX1_allTried_0 21 rfl rfl)
theorem dX1_allTried_24 : decode cX1_allTried 24 = .ok (.getfield 112, 3) := dk_180 0 112 (dk_at dksX1_allTried_1 0 rfl rfl)
theorem dX1_allTried_27 : decode cX1_allTried 27 = .ok (.iload_n 1, 1) := dk_27 (dk_at dksX1_allTried_1 3 rfl rfl)
theorem dX1_allTried_28 : decode cX1_allTried 28 = .ok (.aaload, 1) := dk_50 (dk_at dksX1_allTried_1 4 rfl rfl)
theorem dX1_allTried_29 : decode cX1_allTried 29 = .ok (.getfield 233, 3) := dk_180 0 233 (dk_at dksX1_allTried_1 5 rfl rfl)
theorem dX1_allTried_32 : decode cX1_allTried 32 = .ok (.iload_n 2, 1) := dk_28 (dk_at dksX1_allTried_1 8 rfl rfl)
theorem dX1_allTried_33 : decode cX1_allTried 33 = .ok (.aload_n 0, 1) := dk_42 (dk_at dksX1_allTried_1 9 rfl rfl)
theorem dX1_allTried_34 : decode cX1_allTried 34 = .ok (.aload_n 0, 1) := dk_42 (dk_at dksX1_allTried_1 10 rfl rfl)
theorem dX1_allTried_35 : decode cX1_allTried 35 = .ok (.getfield 22, 3) := dk_180 0 22 (dk_at dksX1_allTried_1 11 rfl rfl)
theorem dX1_allTried_38 : decode cX1_allTried 38 = .ok (.getfield 112, 3) := dk_180 0 112 (dk_at dksX1_allTried_1 14 rfl rfl)
theorem dX1_allTried_41 : decode cX1_allTried 41 = .ok (.iload_n 1, 1) := dk_27 (dk_at dksX1_allTried_1 17 rfl rfl)
theorem dX1_allTried_42 : decode cX1_allTried 42 = .ok (.aaload, 1) := dk_50 (dk_at dksX1_allTried_1 18 rfl rfl)
theorem dX1_allTried_43 : decode cX1_allTried 43 = .ok (.iload_n 2, 1) := dk_28 (dk_at dksX1_allTried_1 19 rfl rfl)
theorem dX1_allTried_44 : decode cX1_allTried 44 = .ok (.invokevirtual 236, 3) := dk_182 0 236 (dk_at dksX1_allTried_1 20 rfl rfl)
theorem dX1_allTried_47 : decode cX1_allTried 47 = .ok (.iastore, 1) := dk_79 (dk_at dksX1_allTried_1 23 rfl rfl)
theorem dX1_allTried_48 : decode cX1_allTried 48 = .ok (.iinc 2 1, 3) := dk_132 2 1 (dk_at dksX1_allTried_2 0 rfl rfl)
theorem dX1_allTried_51 : decode cX1_allTried 51 = .ok (.goto (-36), 3) := dk_167 255 220 (dk_at dksX1_allTried_2 3 rfl rfl)
theorem dX1_allTried_54 : decode cX1_allTried 54 = .ok (.iinc 1 1, 3) := dk_132 1 1 (dk_at dksX1_allTried_2 6 rfl rfl)
theorem dX1_allTried_57 : decode cX1_allTried 57 = .ok (.goto (-55), 3) := dk_167 255 201 (dk_at dksX1_allTried_2 9 rfl rfl)
theorem dX1_allTried_60 : decode cX1_allTried 60 = .ok (.return_, 1) := dk_177 (dk_at dksX1_allTried_2 12 rfl rfl)
abbrev cX1_witnessOf : ByteArray := prog_1_method_26_code
def yX1_witnessOf : MethodName := ⟨RX1, "witnessOf", "(LGuestView$Op;I)I"⟩
def dkwX1_witnessOf_1 : List UInt8 := [167, 255, 234, 2, 172]
abbrev dktX1_witnessOf_1 : List UInt8 := dkwX1_witnessOf_1 ++ []
def dkwX1_witnessOf_0 : List UInt8 := [3, 62, 29, 17, 2, 0, 162, 0, 21, 42, 43, 28, 29, 182, 0, 229, 153, 0, 5, 29, 172, 132, 3, 1]
abbrev dktX1_witnessOf_0 : List UInt8 := dkwX1_witnessOf_0 ++ dktX1_witnessOf_1
theorem dksX1_witnessOf_0 : cX1_witnessOf.data.toList.drop 0 = dktX1_witnessOf_0 := by decide +kernel
theorem dksX1_witnessOf_1 : cX1_witnessOf.data.toList.drop 24 = dktX1_witnessOf_1 := dk_seg dksX1_witnessOf_0 24 rfl rfl
theorem dX1_witnessOf_0 : decode cX1_witnessOf 0 = .ok (.iconst 0, 1) := dk_3 (dk_at dksX1_witnessOf_0 0 rfl rfl)
theorem dX1_witnessOf_1 : decode cX1_witnessOf 1 = .ok (.istore_n 3, 1) := dk_62 (dk_at dksX1_witnessOf_0 1 rfl rfl)
theorem dX1_witnessOf_2 : decode cX1_witnessOf 2 = .ok (.iload_n 3, 1) := dk_29 (dk_at dksX1_witnessOf_0 2 rfl rfl)
theorem dX1_witnessOf_3 : decode cX1_witnessOf 3 = .ok (.sipush 512, 3) := dk_17 2 0 (dk_at dksX1_witnessOf_0 3 rfl rfl)
theorem dX1_witnessOf_6 : decode cX1_witnessOf 6 = .ok (.if_icmp .ge 21, 3) := dk_162 0 21 (dk_at dksX1_witnessOf_0 6 rfl rfl)
theorem dX1_witnessOf_9 : decode cX1_witnessOf 9 = .ok (.aload_n 0, 1) := dk_42 (dk_at dksX1_witnessOf_0 9 rfl rfl)
theorem dX1_witnessOf_10 : decode cX1_witnessOf 10 = .ok (.aload_n 1, 1) := dk_43 (dk_at dksX1_witnessOf_0 10 rfl rfl)
theorem dX1_witnessOf_11 : decode cX1_witnessOf 11 = .ok (.iload_n 2, 1) := dk_28 (dk_at dksX1_witnessOf_0 11 rfl rfl)
theorem dX1_witnessOf_12 : decode cX1_witnessOf 12 = .ok (.iload_n 3, 1) := dk_29 (dk_at dksX1_witnessOf_0 12 rfl rfl)
theorem dX1_witnessOf_13 : decode cX1_witnessOf 13 = .ok (.invokevirtual 229, 3) := dk_182 0 229 (dk_at dksX1_witnessOf_0 13 rfl rfl)
theorem dX1_witnessOf_16 : decode cX1_witnessOf 16 = .ok (.ifCond .eq 5, 3) := dk_153 0 5 (dk_at dksX1_witnessOf_0 16 rfl rfl)
theorem dX1_witnessOf_19 : decode cX1_witnessOf 19 = .ok (.iload_n 3, 1) := dk_29 (dk_at dksX1_witnessOf_0 19 rfl rfl)
theorem dX1_witnessOf_20 : decode cX1_witnessOf 20 = .ok (.ireturn, 1) := dk_172 (dk_at dksX1_witnessOf_0 20 rfl rfl)
theorem dX1_witnessOf_21 : decode cX1_witnessOf 21 = .ok (.iinc 3 1, 3) := dk_132 3 1 (dk_at dksX1_witnessOf_0 21 rfl rfl)
theorem dX1_witnessOf_24 : decode cX1_witnessOf 24 = .ok (.goto (-22), 3) := dk_167 255 234 (dk_at dksX1_witnessOf_1 0 rfl rfl)
theorem dX1_witnessOf_27 : decode cX1_witnessOf 27 = .ok (.iconst (-1), 1) := dk_2 (dk_at dksX1_witnessOf_1 3 rfl rfl)
theorem dX1_witnessOf_28 : decode cX1_witnessOf 28 = .ok (.ireturn, 1) := dk_172 (dk_at dksX1_witnessOf_1 4 rfl rfl)
abbrev cX1_shows : ByteArray := prog_1_method_25_code
def yX1_shows : MethodName := ⟨RX1, "shows", "(LGuestView$Op;II)Z"⟩
def dkwX1_shows_1 : List UInt8 := [167, 0, 23, 28, 5, 160, 0, 12, 42, 43, 29, 182, 0, 223, 167, 0, 9, 42, 43, 29, 182, 0, 226, 172]
abbrev dktX1_shows_1 : List UInt8 := dkwX1_shows_1 ++ []
def dkwX1_shows_0 : List UInt8 := [28, 154, 0, 12, 42, 43, 29, 182, 0, 216, 167, 0, 37, 28, 4, 160, 0, 12, 42, 43, 29, 182, 0, 220]
abbrev dktX1_shows_0 : List UInt8 := dkwX1_shows_0 ++ dktX1_shows_1
theorem dksX1_shows_0 : cX1_shows.data.toList.drop 0 = dktX1_shows_0 := by decide +kernel
theorem dksX1_shows_1 : cX1_shows.data.toList.drop 24 = dktX1_shows_1 := dk_seg dksX1_shows_0 24 rfl rfl
theorem dX1_shows_0 : decode cX1_shows 0 = .ok (.iload_n 2, 1) := dk_28 (dk_at dksX1_shows_0 0 rfl rfl)
theorem dX1_shows_1 : decode cX1_shows 1 = .ok (.ifCond .ne 12, 3) := dk_154 0 12 (dk_at dksX1_shows_0 1 rfl rfl)
theorem dX1_shows_4 : decode cX1_shows 4 = .ok (.aload_n 0, 1) := dk_42 (dk_at dksX1_shows_0 4 rfl rfl)
theorem dX1_shows_5 : decode cX1_shows 5 = .ok (.aload_n 1, 1) := dk_43 (dk_at dksX1_shows_0 5 rfl rfl)
theorem dX1_shows_6 : decode cX1_shows 6 = .ok (.iload_n 3, 1) := dk_29 (dk_at dksX1_shows_0 6 rfl rfl)
theorem dX1_shows_7 : decode cX1_shows 7 = .ok (.invokevirtual 216, 3) := dk_182 0 216 (dk_at dksX1_shows_0 7 rfl rfl)
theorem dX1_shows_10 : decode cX1_shows 10 = .ok (.goto 37, 3) := dk_167 0 37 (dk_at dksX1_shows_0 10 rfl rfl)
theorem dX1_shows_13 : decode cX1_shows 13 = .ok (.iload_n 2, 1) := dk_28 (dk_at dksX1_shows_0 13 rfl rfl)
theorem dX1_shows_14 : decode cX1_shows 14 = .ok (.iconst 1, 1) := dk_4 (dk_at dksX1_shows_0 14 rfl rfl)
theorem dX1_shows_15 : decode cX1_shows 15 = .ok (.if_icmp .ne 12, 3) := dk_160 0 12 (dk_at dksX1_shows_0 15 rfl rfl)
theorem dX1_shows_18 : decode cX1_shows 18 = .ok (.aload_n 0, 1) := dk_42 (dk_at dksX1_shows_0 18 rfl rfl)
theorem dX1_shows_19 : decode cX1_shows 19 = .ok (.aload_n 1, 1) := dk_43 (dk_at dksX1_shows_0 19 rfl rfl)
theorem dX1_shows_20 : decode cX1_shows 20 = .ok (.iload_n 3, 1) := dk_29 (dk_at dksX1_shows_0 20 rfl rfl)
theorem dX1_shows_21 : decode cX1_shows 21 = .ok (.invokevirtual 220, 3) := dk_182 0 220 (dk_at dksX1_shows_0 21 rfl rfl)
theorem dX1_shows_24 : decode cX1_shows 24 = .ok (.goto 23, 3) := dk_167 0 23 (dk_at dksX1_shows_1 0 rfl rfl)
theorem dX1_shows_27 : decode cX1_shows 27 = .ok (.iload_n 2, 1) := dk_28 (dk_at dksX1_shows_1 3 rfl rfl)
theorem dX1_shows_28 : decode cX1_shows 28 = .ok (.iconst 2, 1) := dk_5 (dk_at dksX1_shows_1 4 rfl rfl)
theorem dX1_shows_29 : decode cX1_shows 29 = .ok (.if_icmp .ne 12, 3) := dk_160 0 12 (dk_at dksX1_shows_1 5 rfl rfl)
theorem dX1_shows_32 : decode cX1_shows 32 = .ok (.aload_n 0, 1) := dk_42 (dk_at dksX1_shows_1 8 rfl rfl)
theorem dX1_shows_33 : decode cX1_shows 33 = .ok (.aload_n 1, 1) := dk_43 (dk_at dksX1_shows_1 9 rfl rfl)
theorem dX1_shows_34 : decode cX1_shows 34 = .ok (.iload_n 3, 1) := dk_29 (dk_at dksX1_shows_1 10 rfl rfl)
theorem dX1_shows_35 : decode cX1_shows 35 = .ok (.invokevirtual 223, 3) := dk_182 0 223 (dk_at dksX1_shows_1 11 rfl rfl)
theorem dX1_shows_38 : decode cX1_shows 38 = .ok (.goto 9, 3) := dk_167 0 9 (dk_at dksX1_shows_1 14 rfl rfl)
theorem dX1_shows_41 : decode cX1_shows 41 = .ok (.aload_n 0, 1) := dk_42 (dk_at dksX1_shows_1 17 rfl rfl)
theorem dX1_shows_42 : decode cX1_shows 42 = .ok (.aload_n 1, 1) := dk_43 (dk_at dksX1_shows_1 18 rfl rfl)
theorem dX1_shows_43 : decode cX1_shows 43 = .ok (.iload_n 3, 1) := dk_29 (dk_at dksX1_shows_1 19 rfl rfl)
theorem dX1_shows_44 : decode cX1_shows 44 = .ok (.invokevirtual 226, 3) := dk_182 0 226 (dk_at dksX1_shows_1 20 rfl rfl)
theorem dX1_shows_47 : decode cX1_shows 47 = .ok (.ireturn, 1) := dk_172 (dk_at dksX1_shows_1 23 rfl rfl)
abbrev cX1_isControl : ByteArray := prog_1_method_21_code
def yX1_isControl : MethodName := ⟨RX1, "isControl", "(LGuestView$Op;I)Z"⟩
def dkwX1_isControl_3 : List UInt8 := [167, 0, 4, 3, 172]
abbrev dktX1_isControl_3 : List UInt8 := dkwX1_isControl_3 ++ []
def dkwX1_isControl_2 : List UInt8 := [180, 0, 35, 180, 0, 185, 29, 160, 0, 15, 42, 180, 0, 35, 180, 0, 188, 21, 4, 159, 0, 7, 4]
abbrev dktX1_isControl_2 : List UInt8 := dkwX1_isControl_2 ++ dktX1_isControl_3
def dkwX1_isControl_1 : List UInt8 := [54, 4, 42, 180, 0, 35, 43, 182, 0, 191, 153, 0, 5, 3, 172, 42, 180, 0, 35, 43, 182, 0, 195, 42]
abbrev dktX1_isControl_1 : List UInt8 := dkwX1_isControl_1 ++ dktX1_isControl_2
def dkwX1_isControl_0 : List UInt8 := [42, 180, 0, 35, 28, 182, 0, 183, 42, 180, 0, 35, 180, 0, 185, 62, 42, 180, 0, 35, 180, 0, 188]
abbrev dktX1_isControl_0 : List UInt8 := dkwX1_isControl_0 ++ dktX1_isControl_1
theorem dksX1_isControl_0 : cX1_isControl.data.toList.drop 0 = dktX1_isControl_0 := by decide +kernel
theorem dksX1_isControl_1 : cX1_isControl.data.toList.drop 23 = dktX1_isControl_1 := dk_seg dksX1_isControl_0 23 rfl rfl
theorem dksX1_isControl_2 : cX1_isControl.data.toList.drop 47 = dktX1_isControl_2 := dk_seg dksX1_isControl_1 24 rfl rfl
theorem dksX1_isControl_3 : cX1_isControl.data.toList.drop 70 = dktX1_isControl_3 := dk_seg dksX1_isControl_2 23 rfl rfl
theorem dX1_isControl_0 : decode cX1_isControl 0 = .ok (.aload_n 0, 1) := dk_42 (dk_at dksX1_isControl_0 0 rfl rfl)
theorem dX1_isControl_1 : decode cX1_isControl 1 = .ok (.getfield 35, 3) := dk_180 0 35 (dk_at dksX1_isControl_0 1 rfl rfl)
theorem dX1_isControl_4 : decode cX1_isControl 4 = .ok (.iload_n 2, 1) := dk_28 (dk_at dksX1_isControl_0 4 rfl rfl)
theorem dX1_isControl_5 : decode cX1_isControl 5 = .ok (.invokevirtual 183, 3) := dk_182 0 183 (dk_at dksX1_isControl_0 5 rfl rfl)
theorem dX1_isControl_8 : decode cX1_isControl 8 = .ok (.aload_n 0, 1) := dk_42 (dk_at dksX1_isControl_0 8 rfl rfl)
theorem dX1_isControl_9 : decode cX1_isControl 9 = .ok (.getfield 35, 3) := dk_180 0 35 (dk_at dksX1_isControl_0 9 rfl rfl)
theorem dX1_isControl_12 : decode cX1_isControl 12 = .ok (.getfield 185, 3) := dk_180 0 185 (dk_at dksX1_isControl_0 12 rfl rfl)
theorem dX1_isControl_15 : decode cX1_isControl 15 = .ok (.istore_n 3, 1) := dk_62 (dk_at dksX1_isControl_0 15 rfl rfl)
theorem dX1_isControl_16 : decode cX1_isControl 16 = .ok (.aload_n 0, 1) := dk_42 (dk_at dksX1_isControl_0 16 rfl rfl)
theorem dX1_isControl_17 : decode cX1_isControl 17 = .ok (.getfield 35, 3) := dk_180 0 35 (dk_at dksX1_isControl_0 17 rfl rfl)
theorem dX1_isControl_20 : decode cX1_isControl 20 = .ok (.getfield 188, 3) := dk_180 0 188 (dk_at dksX1_isControl_0 20 rfl rfl)
theorem dX1_isControl_23 : decode cX1_isControl 23 = .ok (.istore 4, 2) := dk_54 4 (dk_at dksX1_isControl_1 0 rfl rfl)
theorem dX1_isControl_25 : decode cX1_isControl 25 = .ok (.aload_n 0, 1) := dk_42 (dk_at dksX1_isControl_1 2 rfl rfl)
theorem dX1_isControl_26 : decode cX1_isControl 26 = .ok (.getfield 35, 3) := dk_180 0 35 (dk_at dksX1_isControl_1 3 rfl rfl)
theorem dX1_isControl_29 : decode cX1_isControl 29 = .ok (.aload_n 1, 1) := dk_43 (dk_at dksX1_isControl_1 6 rfl rfl)
theorem dX1_isControl_30 : decode cX1_isControl 30 = .ok (.invokevirtual 191, 3) := dk_182 0 191 (dk_at dksX1_isControl_1 7 rfl rfl)
theorem dX1_isControl_33 : decode cX1_isControl 33 = .ok (.ifCond .eq 5, 3) := dk_153 0 5 (dk_at dksX1_isControl_1 10 rfl rfl)
theorem dX1_isControl_36 : decode cX1_isControl 36 = .ok (.iconst 0, 1) := dk_3 (dk_at dksX1_isControl_1 13 rfl rfl)
theorem dX1_isControl_37 : decode cX1_isControl 37 = .ok (.ireturn, 1) := dk_172 (dk_at dksX1_isControl_1 14 rfl rfl)
theorem dX1_isControl_38 : decode cX1_isControl 38 = .ok (.aload_n 0, 1) := dk_42 (dk_at dksX1_isControl_1 15 rfl rfl)
theorem dX1_isControl_39 : decode cX1_isControl 39 = .ok (.getfield 35, 3) := dk_180 0 35 (dk_at dksX1_isControl_1 16 rfl rfl)
theorem dX1_isControl_42 : decode cX1_isControl 42 = .ok (.aload_n 1, 1) := dk_43 (dk_at dksX1_isControl_1 19 rfl rfl)
theorem dX1_isControl_43 : decode cX1_isControl 43 = .ok (.invokevirtual 195, 3) := dk_182 0 195 (dk_at dksX1_isControl_1 20 rfl rfl)
theorem dX1_isControl_46 : decode cX1_isControl 46 = .ok (.aload_n 0, 1) := dk_42 (dk_at dksX1_isControl_1 23 rfl rfl)
theorem dX1_isControl_47 : decode cX1_isControl 47 = .ok (.getfield 35, 3) := dk_180 0 35 (dk_at dksX1_isControl_2 0 rfl rfl)
theorem dX1_isControl_50 : decode cX1_isControl 50 = .ok (.getfield 185, 3) := dk_180 0 185 (dk_at dksX1_isControl_2 3 rfl rfl)
theorem dX1_isControl_53 : decode cX1_isControl 53 = .ok (.iload_n 3, 1) := dk_29 (dk_at dksX1_isControl_2 6 rfl rfl)
theorem dX1_isControl_54 : decode cX1_isControl 54 = .ok (.if_icmp .ne 15, 3) := dk_160 0 15 (dk_at dksX1_isControl_2 7 rfl rfl)
theorem dX1_isControl_57 : decode cX1_isControl 57 = .ok (.aload_n 0, 1) := dk_42 (dk_at dksX1_isControl_2 10 rfl rfl)
theorem dX1_isControl_58 : decode cX1_isControl 58 = .ok (.getfield 35, 3) := dk_180 0 35 (dk_at dksX1_isControl_2 11 rfl rfl)
theorem dX1_isControl_61 : decode cX1_isControl 61 = .ok (.getfield 188, 3) := dk_180 0 188 (dk_at dksX1_isControl_2 14 rfl rfl)
theorem dX1_isControl_64 : decode cX1_isControl 64 = .ok (.iload 4, 2) := dk_21 4 (dk_at dksX1_isControl_2 17 rfl rfl)
theorem dX1_isControl_66 : decode cX1_isControl 66 = .ok (.if_icmp .eq 7, 3) := dk_159 0 7 (dk_at dksX1_isControl_2 19 rfl rfl)
theorem dX1_isControl_69 : decode cX1_isControl 69 = .ok (.iconst 1, 1) := dk_4 (dk_at dksX1_isControl_2 22 rfl rfl)
theorem dX1_isControl_70 : decode cX1_isControl 70 = .ok (.goto 4, 3) := dk_167 0 4 (dk_at dksX1_isControl_3 0 rfl rfl)
theorem dX1_isControl_73 : decode cX1_isControl 73 = .ok (.iconst 0, 1) := dk_3 (dk_at dksX1_isControl_3 3 rfl rfl)
theorem dX1_isControl_74 : decode cX1_isControl 74 = .ok (.ireturn, 1) := dk_172 (dk_at dksX1_isControl_3 4 rfl rfl)
abbrev cX1_isModal : ByteArray := prog_1_method_22_code
def yX1_isModal : MethodName := ⟨RX1, "isModal", "(LGuestView$Op;I)Z"⟩
def dkwX1_isModal_2 : List UInt8 := [180, 0, 39, 43, 182, 0, 195, 42, 180, 0, 35, 42, 180, 0, 39, 3, 182, 0, 205, 172]
abbrev dktX1_isModal_2 : List UInt8 := dkwX1_isModal_2 ++ []
def dkwX1_isModal_1 : List UInt8 := [153, 0, 5, 3, 172, 42, 180, 0, 39, 28, 7, 96, 182, 0, 183, 42, 180, 0, 35, 43, 182, 0, 195, 42]
abbrev dktX1_isModal_1 : List UInt8 := dkwX1_isModal_1 ++ dktX1_isModal_2
def dkwX1_isModal_0 : List UInt8 := [42, 180, 0, 35, 28, 182, 0, 183, 42, 180, 0, 35, 180, 0, 185, 4, 159, 0, 10, 43, 180, 0, 199]
abbrev dktX1_isModal_0 : List UInt8 := dkwX1_isModal_0 ++ dktX1_isModal_1
theorem dksX1_isModal_0 : cX1_isModal.data.toList.drop 0 = dktX1_isModal_0 := by decide +kernel
theorem dksX1_isModal_1 : cX1_isModal.data.toList.drop 23 = dktX1_isModal_1 := dk_seg dksX1_isModal_0 23 rfl rfl
theorem dksX1_isModal_2 : cX1_isModal.data.toList.drop 47 = dktX1_isModal_2 := dk_seg dksX1_isModal_1 24 rfl rfl
theorem dX1_isModal_0 : decode cX1_isModal 0 = .ok (.aload_n 0, 1) := dk_42 (dk_at dksX1_isModal_0 0 rfl rfl)
theorem dX1_isModal_1 : decode cX1_isModal 1 = .ok (.getfield 35, 3) := dk_180 0 35 (dk_at dksX1_isModal_0 1 rfl rfl)
theorem dX1_isModal_4 : decode cX1_isModal 4 = .ok (.iload_n 2, 1) := dk_28 (dk_at dksX1_isModal_0 4 rfl rfl)
theorem dX1_isModal_5 : decode cX1_isModal 5 = .ok (.invokevirtual 183, 3) := dk_182 0 183 (dk_at dksX1_isModal_0 5 rfl rfl)
theorem dX1_isModal_8 : decode cX1_isModal 8 = .ok (.aload_n 0, 1) := dk_42 (dk_at dksX1_isModal_0 8 rfl rfl)
theorem dX1_isModal_9 : decode cX1_isModal 9 = .ok (.getfield 35, 3) := dk_180 0 35 (dk_at dksX1_isModal_0 9 rfl rfl)
theorem dX1_isModal_12 : decode cX1_isModal 12 = .ok (.getfield 185, 3) := dk_180 0 185 (dk_at dksX1_isModal_0 12 rfl rfl)
theorem dX1_isModal_15 : decode cX1_isModal 15 = .ok (.iconst 1, 1) := dk_4 (dk_at dksX1_isModal_0 15 rfl rfl)
theorem dX1_isModal_16 : decode cX1_isModal 16 = .ok (.if_icmp .eq 10, 3) := dk_159 0 10 (dk_at dksX1_isModal_0 16 rfl rfl)
theorem dX1_isModal_19 : decode cX1_isModal 19 = .ok (.aload_n 1, 1) := dk_43 (dk_at dksX1_isModal_0 19 rfl rfl)
theorem dX1_isModal_20 : decode cX1_isModal 20 = .ok (.getfield 199, 3) := dk_180 0 199 (dk_at dksX1_isModal_0 20 rfl rfl)
theorem dX1_isModal_23 : decode cX1_isModal 23 = .ok (.ifCond .eq 5, 3) := dk_153 0 5 (dk_at dksX1_isModal_1 0 rfl rfl)
theorem dX1_isModal_26 : decode cX1_isModal 26 = .ok (.iconst 0, 1) := dk_3 (dk_at dksX1_isModal_1 3 rfl rfl)
theorem dX1_isModal_27 : decode cX1_isModal 27 = .ok (.ireturn, 1) := dk_172 (dk_at dksX1_isModal_1 4 rfl rfl)
theorem dX1_isModal_28 : decode cX1_isModal 28 = .ok (.aload_n 0, 1) := dk_42 (dk_at dksX1_isModal_1 5 rfl rfl)
theorem dX1_isModal_29 : decode cX1_isModal 29 = .ok (.getfield 39, 3) := dk_180 0 39 (dk_at dksX1_isModal_1 6 rfl rfl)
theorem dX1_isModal_32 : decode cX1_isModal 32 = .ok (.iload_n 2, 1) := dk_28 (dk_at dksX1_isModal_1 9 rfl rfl)
theorem dX1_isModal_33 : decode cX1_isModal 33 = .ok (.iconst 4, 1) := dk_7 (dk_at dksX1_isModal_1 10 rfl rfl)
theorem dX1_isModal_34 : decode cX1_isModal 34 = .ok (.iadd, 1) := dk_96 (dk_at dksX1_isModal_1 11 rfl rfl)
theorem dX1_isModal_35 : decode cX1_isModal 35 = .ok (.invokevirtual 183, 3) := dk_182 0 183 (dk_at dksX1_isModal_1 12 rfl rfl)
theorem dX1_isModal_38 : decode cX1_isModal 38 = .ok (.aload_n 0, 1) := dk_42 (dk_at dksX1_isModal_1 15 rfl rfl)
theorem dX1_isModal_39 : decode cX1_isModal 39 = .ok (.getfield 35, 3) := dk_180 0 35 (dk_at dksX1_isModal_1 16 rfl rfl)
theorem dX1_isModal_42 : decode cX1_isModal 42 = .ok (.aload_n 1, 1) := dk_43 (dk_at dksX1_isModal_1 19 rfl rfl)
theorem dX1_isModal_43 : decode cX1_isModal 43 = .ok (.invokevirtual 195, 3) := dk_182 0 195 (dk_at dksX1_isModal_1 20 rfl rfl)
theorem dX1_isModal_46 : decode cX1_isModal 46 = .ok (.aload_n 0, 1) := dk_42 (dk_at dksX1_isModal_1 23 rfl rfl)
theorem dX1_isModal_47 : decode cX1_isModal 47 = .ok (.getfield 39, 3) := dk_180 0 39 (dk_at dksX1_isModal_2 0 rfl rfl)
theorem dX1_isModal_50 : decode cX1_isModal 50 = .ok (.aload_n 1, 1) := dk_43 (dk_at dksX1_isModal_2 3 rfl rfl)
theorem dX1_isModal_51 : decode cX1_isModal 51 = .ok (.invokevirtual 195, 3) := dk_182 0 195 (dk_at dksX1_isModal_2 4 rfl rfl)
theorem dX1_isModal_54 : decode cX1_isModal 54 = .ok (.aload_n 0, 1) := dk_42 (dk_at dksX1_isModal_2 7 rfl rfl)
theorem dX1_isModal_55 : decode cX1_isModal 55 = .ok (.getfield 35, 3) := dk_180 0 35 (dk_at dksX1_isModal_2 8 rfl rfl)
theorem dX1_isModal_58 : decode cX1_isModal 58 = .ok (.aload_n 0, 1) := dk_42 (dk_at dksX1_isModal_2 11 rfl rfl)
theorem dX1_isModal_59 : decode cX1_isModal 59 = .ok (.getfield 39, 3) := dk_180 0 39 (dk_at dksX1_isModal_2 12 rfl rfl)
theorem dX1_isModal_62 : decode cX1_isModal 62 = .ok (.iconst 0, 1) := dk_3 (dk_at dksX1_isModal_2 15 rfl rfl)
theorem dX1_isModal_63 : decode cX1_isModal 63 = .ok (.invokevirtual 205, 3) := dk_182 0 205 (dk_at dksX1_isModal_2 16 rfl rfl)
theorem dX1_isModal_66 : decode cX1_isModal 66 = .ok (.ireturn, 1) := dk_172 (dk_at dksX1_isModal_2 19 rfl rfl)
abbrev cX1_isLocal : ByteArray := prog_1_method_23_code
def yX1_isLocal : MethodName := ⟨RX1, "isLocal", "(LGuestView$Op;I)Z"⟩
def dkwX1_isLocal_2 : List UInt8 := [182, 0, 195, 42, 180, 0, 39, 43, 182, 0, 195, 42, 180, 0, 35, 42, 180, 0, 39, 29, 182, 0, 205, 172]
abbrev dktX1_isLocal_2 : List UInt8 := dkwX1_isLocal_2 ++ []
def dkwX1_isLocal_1 : List UInt8 := [180, 0, 35, 180, 0, 188, 62, 42, 180, 0, 39, 42, 180, 0, 35, 182, 0, 209, 42, 180, 0, 35, 43]
abbrev dktX1_isLocal_1 : List UInt8 := dkwX1_isLocal_1 ++ dktX1_isLocal_2
def dkwX1_isLocal_0 : List UInt8 := [42, 180, 0, 35, 28, 182, 0, 183, 42, 180, 0, 35, 43, 182, 0, 191, 153, 0, 5, 3, 172, 42]
abbrev dktX1_isLocal_0 : List UInt8 := dkwX1_isLocal_0 ++ dktX1_isLocal_1
theorem dksX1_isLocal_0 : cX1_isLocal.data.toList.drop 0 = dktX1_isLocal_0 := by decide +kernel
theorem dksX1_isLocal_1 : cX1_isLocal.data.toList.drop 22 = dktX1_isLocal_1 := dk_seg dksX1_isLocal_0 22 rfl rfl
theorem dksX1_isLocal_2 : cX1_isLocal.data.toList.drop 45 = dktX1_isLocal_2 := dk_seg dksX1_isLocal_1 23 rfl rfl
theorem dX1_isLocal_0 : decode cX1_isLocal 0 = .ok (.aload_n 0, 1) := dk_42 (dk_at dksX1_isLocal_0 0 rfl rfl)
theorem dX1_isLocal_1 : decode cX1_isLocal 1 = .ok (.getfield 35, 3) := dk_180 0 35 (dk_at dksX1_isLocal_0 1 rfl rfl)
theorem dX1_isLocal_4 : decode cX1_isLocal 4 = .ok (.iload_n 2, 1) := dk_28 (dk_at dksX1_isLocal_0 4 rfl rfl)
theorem dX1_isLocal_5 : decode cX1_isLocal 5 = .ok (.invokevirtual 183, 3) := dk_182 0 183 (dk_at dksX1_isLocal_0 5 rfl rfl)
theorem dX1_isLocal_8 : decode cX1_isLocal 8 = .ok (.aload_n 0, 1) := dk_42 (dk_at dksX1_isLocal_0 8 rfl rfl)
theorem dX1_isLocal_9 : decode cX1_isLocal 9 = .ok (.getfield 35, 3) := dk_180 0 35 (dk_at dksX1_isLocal_0 9 rfl rfl)
theorem dX1_isLocal_12 : decode cX1_isLocal 12 = .ok (.aload_n 1, 1) := dk_43 (dk_at dksX1_isLocal_0 12 rfl rfl)
theorem dX1_isLocal_13 : decode cX1_isLocal 13 = .ok (.invokevirtual 191, 3) := dk_182 0 191 (dk_at dksX1_isLocal_0 13 rfl rfl)
theorem dX1_isLocal_16 : decode cX1_isLocal 16 = .ok (.ifCond .eq 5, 3) := dk_153 0 5 (dk_at dksX1_isLocal_0 16 rfl rfl)
theorem dX1_isLocal_19 : decode cX1_isLocal 19 = .ok (.iconst 0, 1) := dk_3 (dk_at dksX1_isLocal_0 19 rfl rfl)
theorem dX1_isLocal_20 : decode cX1_isLocal 20 = .ok (.ireturn, 1) := dk_172 (dk_at dksX1_isLocal_0 20 rfl rfl)
theorem dX1_isLocal_21 : decode cX1_isLocal 21 = .ok (.aload_n 0, 1) := dk_42 (dk_at dksX1_isLocal_0 21 rfl rfl)
theorem dX1_isLocal_22 : decode cX1_isLocal 22 = .ok (.getfield 35, 3) := dk_180 0 35 (dk_at dksX1_isLocal_1 0 rfl rfl)
theorem dX1_isLocal_25 : decode cX1_isLocal 25 = .ok (.getfield 188, 3) := dk_180 0 188 (dk_at dksX1_isLocal_1 3 rfl rfl)
theorem dX1_isLocal_28 : decode cX1_isLocal 28 = .ok (.istore_n 3, 1) := dk_62 (dk_at dksX1_isLocal_1 6 rfl rfl)
theorem dX1_isLocal_29 : decode cX1_isLocal 29 = .ok (.aload_n 0, 1) := dk_42 (dk_at dksX1_isLocal_1 7 rfl rfl)
theorem dX1_isLocal_30 : decode cX1_isLocal 30 = .ok (.getfield 39, 3) := dk_180 0 39 (dk_at dksX1_isLocal_1 8 rfl rfl)
theorem dX1_isLocal_33 : decode cX1_isLocal 33 = .ok (.aload_n 0, 1) := dk_42 (dk_at dksX1_isLocal_1 11 rfl rfl)
theorem dX1_isLocal_34 : decode cX1_isLocal 34 = .ok (.getfield 35, 3) := dk_180 0 35 (dk_at dksX1_isLocal_1 12 rfl rfl)
theorem dX1_isLocal_37 : decode cX1_isLocal 37 = .ok (.invokevirtual 209, 3) := dk_182 0 209 (dk_at dksX1_isLocal_1 15 rfl rfl)
theorem dX1_isLocal_40 : decode cX1_isLocal 40 = .ok (.aload_n 0, 1) := dk_42 (dk_at dksX1_isLocal_1 18 rfl rfl)
theorem dX1_isLocal_41 : decode cX1_isLocal 41 = .ok (.getfield 35, 3) := dk_180 0 35 (dk_at dksX1_isLocal_1 19 rfl rfl)
theorem dX1_isLocal_44 : decode cX1_isLocal 44 = .ok (.aload_n 1, 1) := dk_43 (dk_at dksX1_isLocal_1 22 rfl rfl)
theorem dX1_isLocal_45 : decode cX1_isLocal 45 = .ok (.invokevirtual 195, 3) := dk_182 0 195 (dk_at dksX1_isLocal_2 0 rfl rfl)
theorem dX1_isLocal_48 : decode cX1_isLocal 48 = .ok (.aload_n 0, 1) := dk_42 (dk_at dksX1_isLocal_2 3 rfl rfl)
theorem dX1_isLocal_49 : decode cX1_isLocal 49 = .ok (.getfield 39, 3) := dk_180 0 39 (dk_at dksX1_isLocal_2 4 rfl rfl)
theorem dX1_isLocal_52 : decode cX1_isLocal 52 = .ok (.aload_n 1, 1) := dk_43 (dk_at dksX1_isLocal_2 7 rfl rfl)
theorem dX1_isLocal_53 : decode cX1_isLocal 53 = .ok (.invokevirtual 195, 3) := dk_182 0 195 (dk_at dksX1_isLocal_2 8 rfl rfl)
theorem dX1_isLocal_56 : decode cX1_isLocal 56 = .ok (.aload_n 0, 1) := dk_42 (dk_at dksX1_isLocal_2 11 rfl rfl)
theorem dX1_isLocal_57 : decode cX1_isLocal 57 = .ok (.getfield 35, 3) := dk_180 0 35 (dk_at dksX1_isLocal_2 12 rfl rfl)
theorem dX1_isLocal_60 : decode cX1_isLocal 60 = .ok (.aload_n 0, 1) := dk_42 (dk_at dksX1_isLocal_2 15 rfl rfl)
theorem dX1_isLocal_61 : decode cX1_isLocal 61 = .ok (.getfield 39, 3) := dk_180 0 39 (dk_at dksX1_isLocal_2 16 rfl rfl)
theorem dX1_isLocal_64 : decode cX1_isLocal 64 = .ok (.iload_n 3, 1) := dk_29 (dk_at dksX1_isLocal_2 19 rfl rfl)
theorem dX1_isLocal_65 : decode cX1_isLocal 65 = .ok (.invokevirtual 205, 3) := dk_182 0 205 (dk_at dksX1_isLocal_2 20 rfl rfl)
theorem dX1_isLocal_68 : decode cX1_isLocal 68 = .ok (.ireturn, 1) := dk_172 (dk_at dksX1_isLocal_2 23 rfl rfl)
abbrev cX1_isTimed : ByteArray := prog_1_method_24_code
def yX1_isTimed : MethodName := ⟨RX1, "isTimed", "(LGuestView$Op;I)Z"⟩
def dkwX1_isTimed_3 : List UInt8 := [182, 0, 205, 153, 0, 5, 4, 172, 132, 3, 1, 167, 255, 206, 3, 172]
abbrev dktX1_isTimed_3 : List UInt8 := dkwX1_isTimed_3 ++ []
def dkwX1_isTimed_2 : List UInt8 := [180, 0, 39, 29, 181, 0, 213, 42, 180, 0, 39, 43, 182, 0, 195, 42, 180, 0, 35, 42, 180, 0, 39, 3]
abbrev dktX1_isTimed_2 : List UInt8 := dkwX1_isTimed_2 ++ dktX1_isTimed_3
def dkwX1_isTimed_1 : List UInt8 := [180, 0, 35, 43, 182, 0, 195, 4, 62, 29, 16, 8, 162, 0, 50, 42, 180, 0, 39, 28, 182, 0, 183, 42]
abbrev dktX1_isTimed_1 : List UInt8 := dkwX1_isTimed_1 ++ dktX1_isTimed_2
def dkwX1_isTimed_0 : List UInt8 := [42, 180, 0, 35, 28, 182, 0, 183, 42, 180, 0, 35, 43, 182, 0, 191, 153, 0, 5, 3, 172, 42]
abbrev dktX1_isTimed_0 : List UInt8 := dkwX1_isTimed_0 ++ dktX1_isTimed_1
theorem dksX1_isTimed_0 : cX1_isTimed.data.toList.drop 0 = dktX1_isTimed_0 := by decide +kernel
theorem dksX1_isTimed_1 : cX1_isTimed.data.toList.drop 22 = dktX1_isTimed_1 := dk_seg dksX1_isTimed_0 22 rfl rfl
theorem dksX1_isTimed_2 : cX1_isTimed.data.toList.drop 46 = dktX1_isTimed_2 := dk_seg dksX1_isTimed_1 24 rfl rfl
theorem dksX1_isTimed_3 : cX1_isTimed.data.toList.drop 70 = dktX1_isTimed_3 := dk_seg dksX1_isTimed_2 24 rfl rfl
theorem dX1_isTimed_0 : decode cX1_isTimed 0 = .ok (.aload_n 0, 1) := dk_42 (dk_at dksX1_isTimed_0 0 rfl rfl)
theorem dX1_isTimed_1 : decode cX1_isTimed 1 = .ok (.getfield 35, 3) := dk_180 0 35 (dk_at dksX1_isTimed_0 1 rfl rfl)
theorem dX1_isTimed_4 : decode cX1_isTimed 4 = .ok (.iload_n 2, 1) := dk_28 (dk_at dksX1_isTimed_0 4 rfl rfl)
theorem dX1_isTimed_5 : decode cX1_isTimed 5 = .ok (.invokevirtual 183, 3) := dk_182 0 183 (dk_at dksX1_isTimed_0 5 rfl rfl)
theorem dX1_isTimed_8 : decode cX1_isTimed 8 = .ok (.aload_n 0, 1) := dk_42 (dk_at dksX1_isTimed_0 8 rfl rfl)
theorem dX1_isTimed_9 : decode cX1_isTimed 9 = .ok (.getfield 35, 3) := dk_180 0 35 (dk_at dksX1_isTimed_0 9 rfl rfl)
theorem dX1_isTimed_12 : decode cX1_isTimed 12 = .ok (.aload_n 1, 1) := dk_43 (dk_at dksX1_isTimed_0 12 rfl rfl)
theorem dX1_isTimed_13 : decode cX1_isTimed 13 = .ok (.invokevirtual 191, 3) := dk_182 0 191 (dk_at dksX1_isTimed_0 13 rfl rfl)
theorem dX1_isTimed_16 : decode cX1_isTimed 16 = .ok (.ifCond .eq 5, 3) := dk_153 0 5 (dk_at dksX1_isTimed_0 16 rfl rfl)
theorem dX1_isTimed_19 : decode cX1_isTimed 19 = .ok (.iconst 0, 1) := dk_3 (dk_at dksX1_isTimed_0 19 rfl rfl)
theorem dX1_isTimed_20 : decode cX1_isTimed 20 = .ok (.ireturn, 1) := dk_172 (dk_at dksX1_isTimed_0 20 rfl rfl)
theorem dX1_isTimed_21 : decode cX1_isTimed 21 = .ok (.aload_n 0, 1) := dk_42 (dk_at dksX1_isTimed_0 21 rfl rfl)
theorem dX1_isTimed_22 : decode cX1_isTimed 22 = .ok (.getfield 35, 3) := dk_180 0 35 (dk_at dksX1_isTimed_1 0 rfl rfl)
theorem dX1_isTimed_25 : decode cX1_isTimed 25 = .ok (.aload_n 1, 1) := dk_43 (dk_at dksX1_isTimed_1 3 rfl rfl)
theorem dX1_isTimed_26 : decode cX1_isTimed 26 = .ok (.invokevirtual 195, 3) := dk_182 0 195 (dk_at dksX1_isTimed_1 4 rfl rfl)
theorem dX1_isTimed_29 : decode cX1_isTimed 29 = .ok (.iconst 1, 1) := dk_4 (dk_at dksX1_isTimed_1 7 rfl rfl)
theorem dX1_isTimed_30 : decode cX1_isTimed 30 = .ok (.istore_n 3, 1) := dk_62 (dk_at dksX1_isTimed_1 8 rfl rfl)
theorem dX1_isTimed_31 : decode cX1_isTimed 31 = .ok (.iload_n 3, 1) := dk_29 (dk_at dksX1_isTimed_1 9 rfl rfl)
theorem dX1_isTimed_32 : decode cX1_isTimed 32 = .ok (.bipush 8, 2) := dk_16 8 (dk_at dksX1_isTimed_1 10 rfl rfl)
theorem dX1_isTimed_34 : decode cX1_isTimed 34 = .ok (.if_icmp .ge 50, 3) := dk_162 0 50 (dk_at dksX1_isTimed_1 12 rfl rfl)
theorem dX1_isTimed_37 : decode cX1_isTimed 37 = .ok (.aload_n 0, 1) := dk_42 (dk_at dksX1_isTimed_1 15 rfl rfl)
theorem dX1_isTimed_38 : decode cX1_isTimed 38 = .ok (.getfield 39, 3) := dk_180 0 39 (dk_at dksX1_isTimed_1 16 rfl rfl)
theorem dX1_isTimed_41 : decode cX1_isTimed 41 = .ok (.iload_n 2, 1) := dk_28 (dk_at dksX1_isTimed_1 19 rfl rfl)
theorem dX1_isTimed_42 : decode cX1_isTimed 42 = .ok (.invokevirtual 183, 3) := dk_182 0 183 (dk_at dksX1_isTimed_1 20 rfl rfl)
theorem dX1_isTimed_45 : decode cX1_isTimed 45 = .ok (.aload_n 0, 1) := dk_42 (dk_at dksX1_isTimed_1 23 rfl rfl)
theorem dX1_isTimed_46 : decode cX1_isTimed 46 = .ok (.getfield 39, 3) := dk_180 0 39 (dk_at dksX1_isTimed_2 0 rfl rfl)
theorem dX1_isTimed_49 : decode cX1_isTimed 49 = .ok (.iload_n 3, 1) := dk_29 (dk_at dksX1_isTimed_2 3 rfl rfl)
theorem dX1_isTimed_50 : decode cX1_isTimed 50 = .ok (.putfield 213, 3) := dk_181 0 213 (dk_at dksX1_isTimed_2 4 rfl rfl)
theorem dX1_isTimed_53 : decode cX1_isTimed 53 = .ok (.aload_n 0, 1) := dk_42 (dk_at dksX1_isTimed_2 7 rfl rfl)
theorem dX1_isTimed_54 : decode cX1_isTimed 54 = .ok (.getfield 39, 3) := dk_180 0 39 (dk_at dksX1_isTimed_2 8 rfl rfl)
theorem dX1_isTimed_57 : decode cX1_isTimed 57 = .ok (.aload_n 1, 1) := dk_43 (dk_at dksX1_isTimed_2 11 rfl rfl)
theorem dX1_isTimed_58 : decode cX1_isTimed 58 = .ok (.invokevirtual 195, 3) := dk_182 0 195 (dk_at dksX1_isTimed_2 12 rfl rfl)
theorem dX1_isTimed_61 : decode cX1_isTimed 61 = .ok (.aload_n 0, 1) := dk_42 (dk_at dksX1_isTimed_2 15 rfl rfl)
theorem dX1_isTimed_62 : decode cX1_isTimed 62 = .ok (.getfield 35, 3) := dk_180 0 35 (dk_at dksX1_isTimed_2 16 rfl rfl)
theorem dX1_isTimed_65 : decode cX1_isTimed 65 = .ok (.aload_n 0, 1) := dk_42 (dk_at dksX1_isTimed_2 19 rfl rfl)
theorem dX1_isTimed_66 : decode cX1_isTimed 66 = .ok (.getfield 39, 3) := dk_180 0 39 (dk_at dksX1_isTimed_2 20 rfl rfl)
theorem dX1_isTimed_69 : decode cX1_isTimed 69 = .ok (.iconst 0, 1) := dk_3 (dk_at dksX1_isTimed_2 23 rfl rfl)
theorem dX1_isTimed_70 : decode cX1_isTimed 70 = .ok (.invokevirtual 205, 3) := dk_182 0 205 (dk_at dksX1_isTimed_3 0 rfl rfl)
theorem dX1_isTimed_73 : decode cX1_isTimed 73 = .ok (.ifCond .eq 5, 3) := dk_153 0 5 (dk_at dksX1_isTimed_3 3 rfl rfl)
theorem dX1_isTimed_76 : decode cX1_isTimed 76 = .ok (.iconst 1, 1) := dk_4 (dk_at dksX1_isTimed_3 6 rfl rfl)
theorem dX1_isTimed_77 : decode cX1_isTimed 77 = .ok (.ireturn, 1) := dk_172 (dk_at dksX1_isTimed_3 7 rfl rfl)
theorem dX1_isTimed_78 : decode cX1_isTimed 78 = .ok (.iinc 3 1, 3) := dk_132 3 1 (dk_at dksX1_isTimed_3 8 rfl rfl)
theorem dX1_isTimed_81 : decode cX1_isTimed 81 = .ok (.goto (-50), 3) := dk_167 255 206 (dk_at dksX1_isTimed_3 11 rfl rfl)
theorem dX1_isTimed_84 : decode cX1_isTimed 84 = .ok (.iconst 0, 1) := dk_3 (dk_at dksX1_isTimed_3 14 rfl rfl)
theorem dX1_isTimed_85 : decode cX1_isTimed 85 = .ok (.ireturn, 1) := dk_172 (dk_at dksX1_isTimed_3 15 rfl rfl)
abbrev cX1_law : ByteArray := prog_1_method_19_code
def yX1_law : MethodName := ⟨RX1, "law", "()I"⟩
def dkwX1_law_3 : List UInt8 := [172]
abbrev dktX1_law_3 : List UInt8 := dkwX1_law_3 ++ []
def dkwX1_law_2 : List UInt8 := [180, 0, 22, 180, 0, 174, 3, 16, 12, 184, 0, 177, 42, 3, 181, 0, 157, 42, 180, 0, 22, 180, 0, 167]
abbrev dktX1_law_2 : List UInt8 := dkwX1_law_2 ++ dktX1_law_3
def dkwX1_law_1 : List UInt8 := [181, 0, 167, 167, 0, 10, 77, 42, 44, 182, 0, 143, 191, 42, 180, 0, 15, 180, 0, 170, 3, 42]
abbrev dktX1_law_1 : List UInt8 := dkwX1_law_1 ++ dktX1_law_2
def dkwX1_law_0 : List UInt8 := [42, 182, 0, 135, 60, 42, 2, 181, 0, 65, 42, 180, 0, 22, 42, 180, 0, 15, 27, 182, 0, 163]
abbrev dktX1_law_0 : List UInt8 := dkwX1_law_0 ++ dktX1_law_1
theorem dksX1_law_0 : cX1_law.data.toList.drop 0 = dktX1_law_0 := by decide +kernel
theorem dksX1_law_1 : cX1_law.data.toList.drop 22 = dktX1_law_1 := dk_seg dksX1_law_0 22 rfl rfl
theorem dksX1_law_2 : cX1_law.data.toList.drop 44 = dktX1_law_2 := dk_seg dksX1_law_1 22 rfl rfl
theorem dksX1_law_3 : cX1_law.data.toList.drop 68 = dktX1_law_3 := dk_seg dksX1_law_2 24 rfl rfl
theorem dX1_law_0 : decode cX1_law 0 = .ok (.aload_n 0, 1) := dk_42 (dk_at dksX1_law_0 0 rfl rfl)
theorem dX1_law_1 : decode cX1_law 1 = .ok (.invokevirtual 135, 3) := dk_182 0 135 (dk_at dksX1_law_0 1 rfl rfl)
theorem dX1_law_4 : decode cX1_law 4 = .ok (.istore_n 1, 1) := dk_60 (dk_at dksX1_law_0 4 rfl rfl)
theorem dX1_law_5 : decode cX1_law 5 = .ok (.aload_n 0, 1) := dk_42 (dk_at dksX1_law_0 5 rfl rfl)
theorem dX1_law_6 : decode cX1_law 6 = .ok (.iconst (-1), 1) := dk_2 (dk_at dksX1_law_0 6 rfl rfl)
theorem dX1_law_7 : decode cX1_law 7 = .ok (.putfield 65, 3) := dk_181 0 65 (dk_at dksX1_law_0 7 rfl rfl)
theorem dX1_law_10 : decode cX1_law 10 = .ok (.aload_n 0, 1) := dk_42 (dk_at dksX1_law_0 10 rfl rfl)
theorem dX1_law_11 : decode cX1_law 11 = .ok (.getfield 22, 3) := dk_180 0 22 (dk_at dksX1_law_0 11 rfl rfl)
theorem dX1_law_14 : decode cX1_law 14 = .ok (.aload_n 0, 1) := dk_42 (dk_at dksX1_law_0 14 rfl rfl)
theorem dX1_law_15 : decode cX1_law 15 = .ok (.getfield 15, 3) := dk_180 0 15 (dk_at dksX1_law_0 15 rfl rfl)
theorem dX1_law_18 : decode cX1_law 18 = .ok (.iload_n 1, 1) := dk_27 (dk_at dksX1_law_0 18 rfl rfl)
theorem dX1_law_19 : decode cX1_law 19 = .ok (.invokevirtual 163, 3) := dk_182 0 163 (dk_at dksX1_law_0 19 rfl rfl)
theorem dX1_law_22 : decode cX1_law 22 = .ok (.putfield 167, 3) := dk_181 0 167 (dk_at dksX1_law_1 0 rfl rfl)
theorem dX1_law_25 : decode cX1_law 25 = .ok (.goto 10, 3) := dk_167 0 10 (dk_at dksX1_law_1 3 rfl rfl)
theorem dX1_law_28 : decode cX1_law 28 = .ok (.astore_n 2, 1) := dk_77 (dk_at dksX1_law_1 6 rfl rfl)
theorem dX1_law_29 : decode cX1_law 29 = .ok (.aload_n 0, 1) := dk_42 (dk_at dksX1_law_1 7 rfl rfl)
theorem dX1_law_30 : decode cX1_law 30 = .ok (.aload_n 2, 1) := dk_44 (dk_at dksX1_law_1 8 rfl rfl)
theorem dX1_law_31 : decode cX1_law 31 = .ok (.invokevirtual 143, 3) := dk_182 0 143 (dk_at dksX1_law_1 9 rfl rfl)
theorem dX1_law_34 : decode cX1_law 34 = .ok (.athrow, 1) := dk_191 (dk_at dksX1_law_1 12 rfl rfl)
theorem dX1_law_35 : decode cX1_law 35 = .ok (.aload_n 0, 1) := dk_42 (dk_at dksX1_law_1 13 rfl rfl)
theorem dX1_law_36 : decode cX1_law 36 = .ok (.getfield 15, 3) := dk_180 0 15 (dk_at dksX1_law_1 14 rfl rfl)
theorem dX1_law_39 : decode cX1_law 39 = .ok (.getfield 170, 3) := dk_180 0 170 (dk_at dksX1_law_1 17 rfl rfl)
theorem dX1_law_42 : decode cX1_law 42 = .ok (.iconst 0, 1) := dk_3 (dk_at dksX1_law_1 20 rfl rfl)
theorem dX1_law_43 : decode cX1_law 43 = .ok (.aload_n 0, 1) := dk_42 (dk_at dksX1_law_1 21 rfl rfl)
theorem dX1_law_44 : decode cX1_law 44 = .ok (.getfield 22, 3) := dk_180 0 22 (dk_at dksX1_law_2 0 rfl rfl)
theorem dX1_law_47 : decode cX1_law 47 = .ok (.getfield 174, 3) := dk_180 0 174 (dk_at dksX1_law_2 3 rfl rfl)
theorem dX1_law_50 : decode cX1_law 50 = .ok (.iconst 0, 1) := dk_3 (dk_at dksX1_law_2 6 rfl rfl)
theorem dX1_law_51 : decode cX1_law 51 = .ok (.bipush 12, 2) := dk_16 12 (dk_at dksX1_law_2 7 rfl rfl)
theorem dX1_law_53 : decode cX1_law 53 = .ok (.invokestatic 177, 3) := dk_184 0 177 (dk_at dksX1_law_2 9 rfl rfl)
theorem dX1_law_56 : decode cX1_law 56 = .ok (.aload_n 0, 1) := dk_42 (dk_at dksX1_law_2 12 rfl rfl)
theorem dX1_law_57 : decode cX1_law 57 = .ok (.iconst 0, 1) := dk_3 (dk_at dksX1_law_2 13 rfl rfl)
theorem dX1_law_58 : decode cX1_law 58 = .ok (.putfield 157, 3) := dk_181 0 157 (dk_at dksX1_law_2 14 rfl rfl)
theorem dX1_law_61 : decode cX1_law 61 = .ok (.aload_n 0, 1) := dk_42 (dk_at dksX1_law_2 17 rfl rfl)
theorem dX1_law_62 : decode cX1_law 62 = .ok (.getfield 22, 3) := dk_180 0 22 (dk_at dksX1_law_2 18 rfl rfl)
theorem dX1_law_65 : decode cX1_law 65 = .ok (.getfield 167, 3) := dk_180 0 167 (dk_at dksX1_law_2 21 rfl rfl)
theorem dX1_law_68 : decode cX1_law 68 = .ok (.ireturn, 1) := dk_172 (dk_at dksX1_law_3 0 rfl rfl)
abbrev cX1_op : ByteArray := prog_1_method_29_code
def yX1_op : MethodName := ⟨RX1, "op", "(II)I"⟩
def dkwX1_op_7 : List UInt8 := [180, 0, 22, 180, 1, 16, 108, 172, 187, 0, 95, 89, 183, 0, 97, 191]
abbrev dktX1_op_7 : List UInt8 := dkwX1_op_7 ++ []
def dkwX1_op_6 : List UInt8 := [180, 1, 16, 154, 0, 7, 3, 167, 0, 22, 16, 100, 42, 180, 0, 22, 27, 182, 1, 13, 104, 42]
abbrev dktX1_op_6 : List UInt8 := dkwX1_op_6 ++ dktX1_op_7
def dkwX1_op_5 : List UInt8 := [172, 42, 180, 0, 22, 27, 182, 1, 10, 172, 42, 180, 0, 22, 27, 182, 1, 13, 172, 42, 180, 0, 22]
abbrev dktX1_op_5 : List UInt8 := dkwX1_op_5 ++ dktX1_op_6
def dkwX1_op_4 : List UInt8 := [182, 1, 0, 184, 0, 248, 172, 42, 180, 0, 22, 27, 182, 1, 4, 172, 42, 180, 0, 22, 27, 182, 1, 7]
abbrev dktX1_op_4 : List UInt8 := dkwX1_op_4 ++ dktX1_op_5
def dkwX1_op_3 : List UInt8 := [45, 180, 0, 252, 172, 45, 180, 0, 199, 184, 0, 248, 172, 45, 180, 0, 253, 184, 0, 248, 172, 45]
abbrev dktX1_op_3 : List UInt8 := dkwX1_op_3 ++ dktX1_op_4
def dkwX1_op_2 : List UInt8 := [170, 0, 0, 0, 0, 0, 0, 167, 0, 0, 0, 0, 0, 0, 0, 12, 0, 0, 0, 68, 0, 0, 0, 73, 0, 0, 0, 81, 0, 0, 0, 167, 0, 0, 0, 167, 0, 0, 0, 167, 0, 0, 0, 167, 0, 0, 0, 89, 0, 0, 0, 97, 0, 0, 0, 106, 0, 0, 0, 115, 0, 0, 0, 124, 0, 0, 0, 133]
abbrev dktX1_op_2 : List UInt8 := dkwX1_op_2 ++ dktX1_op_3
def dkwX1_op_1 : List UInt8 := [184, 0, 248, 172, 28]
abbrev dktX1_op_1 : List UInt8 := dkwX1_op_1 ++ dktX1_op_2
def dkwX1_op_0 : List UInt8 := [42, 27, 182, 0, 240, 78, 28, 6, 16, 6, 184, 0, 104, 153, 0, 14, 45, 28, 6, 100, 182, 0, 244]
abbrev dktX1_op_0 : List UInt8 := dkwX1_op_0 ++ dktX1_op_1
theorem dksX1_op_0 : cX1_op.data.toList.drop 0 = dktX1_op_0 := by decide +kernel
theorem dksX1_op_1 : cX1_op.data.toList.drop 23 = dktX1_op_1 := dk_seg dksX1_op_0 23 rfl rfl
theorem dksX1_op_2 : cX1_op.data.toList.drop 28 = dktX1_op_2 := dk_seg dksX1_op_1 5 rfl rfl
theorem dksX1_op_3 : cX1_op.data.toList.drop 96 = dktX1_op_3 := dk_seg dksX1_op_2 68 rfl rfl
theorem dksX1_op_4 : cX1_op.data.toList.drop 118 = dktX1_op_4 := dk_seg dksX1_op_3 22 rfl rfl
theorem dksX1_op_5 : cX1_op.data.toList.drop 142 = dktX1_op_5 := dk_seg dksX1_op_4 24 rfl rfl
theorem dksX1_op_6 : cX1_op.data.toList.drop 165 = dktX1_op_6 := dk_seg dksX1_op_5 23 rfl rfl
theorem dksX1_op_7 : cX1_op.data.toList.drop 187 = dktX1_op_7 := dk_seg dksX1_op_6 22 rfl rfl
theorem dX1_op_0 : decode cX1_op 0 = .ok (.aload_n 0, 1) := dk_42 (dk_at dksX1_op_0 0 rfl rfl)
theorem dX1_op_1 : decode cX1_op 1 = .ok (.iload_n 1, 1) := dk_27 (dk_at dksX1_op_0 1 rfl rfl)
theorem dX1_op_2 : decode cX1_op 2 = .ok (.invokevirtual 240, 3) := dk_182 0 240 (dk_at dksX1_op_0 2 rfl rfl)
theorem dX1_op_5 : decode cX1_op 5 = .ok (.astore_n 3, 1) := dk_78 (dk_at dksX1_op_0 5 rfl rfl)
theorem dX1_op_6 : decode cX1_op 6 = .ok (.iload_n 2, 1) := dk_28 (dk_at dksX1_op_0 6 rfl rfl)
theorem dX1_op_7 : decode cX1_op 7 = .ok (.iconst 3, 1) := dk_6 (dk_at dksX1_op_0 7 rfl rfl)
theorem dX1_op_8 : decode cX1_op 8 = .ok (.bipush 6, 2) := dk_16 6 (dk_at dksX1_op_0 8 rfl rfl)
theorem dX1_op_10 : decode cX1_op 10 = .ok (.invokestatic 104, 3) := dk_184 0 104 (dk_at dksX1_op_0 10 rfl rfl)
theorem dX1_op_13 : decode cX1_op 13 = .ok (.ifCond .eq 14, 3) := dk_153 0 14 (dk_at dksX1_op_0 13 rfl rfl)
theorem dX1_op_16 : decode cX1_op 16 = .ok (.aload_n 3, 1) := dk_45 (dk_at dksX1_op_0 16 rfl rfl)
theorem dX1_op_17 : decode cX1_op 17 = .ok (.iload_n 2, 1) := dk_28 (dk_at dksX1_op_0 17 rfl rfl)
theorem dX1_op_18 : decode cX1_op 18 = .ok (.iconst 3, 1) := dk_6 (dk_at dksX1_op_0 18 rfl rfl)
theorem dX1_op_19 : decode cX1_op 19 = .ok (.isub, 1) := dk_100 (dk_at dksX1_op_0 19 rfl rfl)
theorem dX1_op_20 : decode cX1_op 20 = .ok (.invokevirtual 244, 3) := dk_182 0 244 (dk_at dksX1_op_0 20 rfl rfl)
theorem dX1_op_23 : decode cX1_op 23 = .ok (.invokestatic 248, 3) := dk_184 0 248 (dk_at dksX1_op_1 0 rfl rfl)
theorem dX1_op_26 : decode cX1_op 26 = .ok (.ireturn, 1) := dk_172 (dk_at dksX1_op_1 3 rfl rfl)
theorem dX1_op_27 : decode cX1_op 27 = .ok (.iload_n 2, 1) := dk_28 (dk_at dksX1_op_1 4 rfl rfl)
theorem dX1_op_28 : decode cX1_op 28 = .ok (.tableswitch 167 0 12 #[68, 73, 81, 167, 167, 167, 167, 89, 97, 106, 115, 124, 133], 68) := by decide +kernel
theorem dX1_op_96 : decode cX1_op 96 = .ok (.aload_n 3, 1) := dk_45 (dk_at dksX1_op_3 0 rfl rfl)
theorem dX1_op_97 : decode cX1_op 97 = .ok (.getfield 252, 3) := dk_180 0 252 (dk_at dksX1_op_3 1 rfl rfl)
theorem dX1_op_100 : decode cX1_op 100 = .ok (.ireturn, 1) := dk_172 (dk_at dksX1_op_3 4 rfl rfl)
theorem dX1_op_101 : decode cX1_op 101 = .ok (.aload_n 3, 1) := dk_45 (dk_at dksX1_op_3 5 rfl rfl)
theorem dX1_op_102 : decode cX1_op 102 = .ok (.getfield 199, 3) := dk_180 0 199 (dk_at dksX1_op_3 6 rfl rfl)
theorem dX1_op_105 : decode cX1_op 105 = .ok (.invokestatic 248, 3) := dk_184 0 248 (dk_at dksX1_op_3 9 rfl rfl)
theorem dX1_op_108 : decode cX1_op 108 = .ok (.ireturn, 1) := dk_172 (dk_at dksX1_op_3 12 rfl rfl)
theorem dX1_op_109 : decode cX1_op 109 = .ok (.aload_n 3, 1) := dk_45 (dk_at dksX1_op_3 13 rfl rfl)
theorem dX1_op_110 : decode cX1_op 110 = .ok (.getfield 253, 3) := dk_180 0 253 (dk_at dksX1_op_3 14 rfl rfl)
theorem dX1_op_113 : decode cX1_op 113 = .ok (.invokestatic 248, 3) := dk_184 0 248 (dk_at dksX1_op_3 17 rfl rfl)
theorem dX1_op_116 : decode cX1_op 116 = .ok (.ireturn, 1) := dk_172 (dk_at dksX1_op_3 20 rfl rfl)
theorem dX1_op_117 : decode cX1_op 117 = .ok (.aload_n 3, 1) := dk_45 (dk_at dksX1_op_3 21 rfl rfl)
theorem dX1_op_118 : decode cX1_op 118 = .ok (.invokevirtual 256, 3) := dk_182 1 0 (dk_at dksX1_op_4 0 rfl rfl)
theorem dX1_op_121 : decode cX1_op 121 = .ok (.invokestatic 248, 3) := dk_184 0 248 (dk_at dksX1_op_4 3 rfl rfl)
theorem dX1_op_124 : decode cX1_op 124 = .ok (.ireturn, 1) := dk_172 (dk_at dksX1_op_4 6 rfl rfl)
theorem dX1_op_125 : decode cX1_op 125 = .ok (.aload_n 0, 1) := dk_42 (dk_at dksX1_op_4 7 rfl rfl)
theorem dX1_op_126 : decode cX1_op 126 = .ok (.getfield 22, 3) := dk_180 0 22 (dk_at dksX1_op_4 8 rfl rfl)
theorem dX1_op_129 : decode cX1_op 129 = .ok (.iload_n 1, 1) := dk_27 (dk_at dksX1_op_4 11 rfl rfl)
theorem dX1_op_130 : decode cX1_op 130 = .ok (.invokevirtual 260, 3) := dk_182 1 4 (dk_at dksX1_op_4 12 rfl rfl)
theorem dX1_op_133 : decode cX1_op 133 = .ok (.ireturn, 1) := dk_172 (dk_at dksX1_op_4 15 rfl rfl)
theorem dX1_op_134 : decode cX1_op 134 = .ok (.aload_n 0, 1) := dk_42 (dk_at dksX1_op_4 16 rfl rfl)
theorem dX1_op_135 : decode cX1_op 135 = .ok (.getfield 22, 3) := dk_180 0 22 (dk_at dksX1_op_4 17 rfl rfl)
theorem dX1_op_138 : decode cX1_op 138 = .ok (.iload_n 1, 1) := dk_27 (dk_at dksX1_op_4 20 rfl rfl)
theorem dX1_op_139 : decode cX1_op 139 = .ok (.invokevirtual 263, 3) := dk_182 1 7 (dk_at dksX1_op_4 21 rfl rfl)
theorem dX1_op_142 : decode cX1_op 142 = .ok (.ireturn, 1) := dk_172 (dk_at dksX1_op_5 0 rfl rfl)
theorem dX1_op_143 : decode cX1_op 143 = .ok (.aload_n 0, 1) := dk_42 (dk_at dksX1_op_5 1 rfl rfl)
theorem dX1_op_144 : decode cX1_op 144 = .ok (.getfield 22, 3) := dk_180 0 22 (dk_at dksX1_op_5 2 rfl rfl)
theorem dX1_op_147 : decode cX1_op 147 = .ok (.iload_n 1, 1) := dk_27 (dk_at dksX1_op_5 5 rfl rfl)
theorem dX1_op_148 : decode cX1_op 148 = .ok (.invokevirtual 266, 3) := dk_182 1 10 (dk_at dksX1_op_5 6 rfl rfl)
theorem dX1_op_151 : decode cX1_op 151 = .ok (.ireturn, 1) := dk_172 (dk_at dksX1_op_5 9 rfl rfl)
theorem dX1_op_152 : decode cX1_op 152 = .ok (.aload_n 0, 1) := dk_42 (dk_at dksX1_op_5 10 rfl rfl)
theorem dX1_op_153 : decode cX1_op 153 = .ok (.getfield 22, 3) := dk_180 0 22 (dk_at dksX1_op_5 11 rfl rfl)
theorem dX1_op_156 : decode cX1_op 156 = .ok (.iload_n 1, 1) := dk_27 (dk_at dksX1_op_5 14 rfl rfl)
theorem dX1_op_157 : decode cX1_op 157 = .ok (.invokevirtual 269, 3) := dk_182 1 13 (dk_at dksX1_op_5 15 rfl rfl)
theorem dX1_op_160 : decode cX1_op 160 = .ok (.ireturn, 1) := dk_172 (dk_at dksX1_op_5 18 rfl rfl)
theorem dX1_op_161 : decode cX1_op 161 = .ok (.aload_n 0, 1) := dk_42 (dk_at dksX1_op_5 19 rfl rfl)
theorem dX1_op_162 : decode cX1_op 162 = .ok (.getfield 22, 3) := dk_180 0 22 (dk_at dksX1_op_5 20 rfl rfl)
theorem dX1_op_165 : decode cX1_op 165 = .ok (.getfield 272, 3) := dk_180 1 16 (dk_at dksX1_op_6 0 rfl rfl)
theorem dX1_op_168 : decode cX1_op 168 = .ok (.ifCond .ne 7, 3) := dk_154 0 7 (dk_at dksX1_op_6 3 rfl rfl)
theorem dX1_op_171 : decode cX1_op 171 = .ok (.iconst 0, 1) := dk_3 (dk_at dksX1_op_6 6 rfl rfl)
theorem dX1_op_172 : decode cX1_op 172 = .ok (.goto 22, 3) := dk_167 0 22 (dk_at dksX1_op_6 7 rfl rfl)
theorem dX1_op_175 : decode cX1_op 175 = .ok (.bipush 100, 2) := dk_16 100 (dk_at dksX1_op_6 10 rfl rfl)
theorem dX1_op_177 : decode cX1_op 177 = .ok (.aload_n 0, 1) := dk_42 (dk_at dksX1_op_6 12 rfl rfl)
theorem dX1_op_178 : decode cX1_op 178 = .ok (.getfield 22, 3) := dk_180 0 22 (dk_at dksX1_op_6 13 rfl rfl)
theorem dX1_op_181 : decode cX1_op 181 = .ok (.iload_n 1, 1) := dk_27 (dk_at dksX1_op_6 16 rfl rfl)
theorem dX1_op_182 : decode cX1_op 182 = .ok (.invokevirtual 269, 3) := dk_182 1 13 (dk_at dksX1_op_6 17 rfl rfl)
theorem dX1_op_185 : decode cX1_op 185 = .ok (.imul, 1) := dk_104 (dk_at dksX1_op_6 20 rfl rfl)
theorem dX1_op_186 : decode cX1_op 186 = .ok (.aload_n 0, 1) := dk_42 (dk_at dksX1_op_6 21 rfl rfl)
theorem dX1_op_187 : decode cX1_op 187 = .ok (.getfield 22, 3) := dk_180 0 22 (dk_at dksX1_op_7 0 rfl rfl)
theorem dX1_op_190 : decode cX1_op 190 = .ok (.getfield 272, 3) := dk_180 1 16 (dk_at dksX1_op_7 3 rfl rfl)
theorem dX1_op_193 : decode cX1_op 193 = .ok (.idiv, 1) := dk_108 (dk_at dksX1_op_7 6 rfl rfl)
theorem dX1_op_194 : decode cX1_op 194 = .ok (.ireturn, 1) := dk_172 (dk_at dksX1_op_7 7 rfl rfl)
theorem dX1_op_195 : decode cX1_op 195 = .ok (.new 95, 3) := dk_187 0 95 (dk_at dksX1_op_7 8 rfl rfl)
theorem dX1_op_198 : decode cX1_op 198 = .ok (.dup, 1) := dk_89 (dk_at dksX1_op_7 11 rfl rfl)
theorem dX1_op_199 : decode cX1_op 199 = .ok (.invokespecial 97, 3) := dk_183 0 97 (dk_at dksX1_op_7 12 rfl rfl)
theorem dX1_op_202 : decode cX1_op 202 = .ok (.athrow, 1) := dk_191 (dk_at dksX1_op_7 15 rfl rfl)
abbrev cX1_opOf : ByteArray := prog_1_method_10_code
def yX1_opOf : MethodName := ⟨RX1, "opOf", "(I)LGuestView$Op;"⟩
def dkwX1_opOf_1 : List UInt8 := [27, 50, 176]
abbrev dktX1_opOf_1 : List UInt8 := dkwX1_opOf_1 ++ []
def dkwX1_opOf_0 : List UInt8 := [27, 3, 42, 180, 0, 22, 180, 0, 101, 4, 100, 184, 0, 104, 184, 0, 108, 42, 180, 0, 22, 180, 0, 112]
abbrev dktX1_opOf_0 : List UInt8 := dkwX1_opOf_0 ++ dktX1_opOf_1
theorem dksX1_opOf_0 : cX1_opOf.data.toList.drop 0 = dktX1_opOf_0 := by decide +kernel
theorem dksX1_opOf_1 : cX1_opOf.data.toList.drop 24 = dktX1_opOf_1 := dk_seg dksX1_opOf_0 24 rfl rfl
theorem dX1_opOf_0 : decode cX1_opOf 0 = .ok (.iload_n 1, 1) := dk_27 (dk_at dksX1_opOf_0 0 rfl rfl)
theorem dX1_opOf_1 : decode cX1_opOf 1 = .ok (.iconst 0, 1) := dk_3 (dk_at dksX1_opOf_0 1 rfl rfl)
theorem dX1_opOf_2 : decode cX1_opOf 2 = .ok (.aload_n 0, 1) := dk_42 (dk_at dksX1_opOf_0 2 rfl rfl)
theorem dX1_opOf_3 : decode cX1_opOf 3 = .ok (.getfield 22, 3) := dk_180 0 22 (dk_at dksX1_opOf_0 3 rfl rfl)
theorem dX1_opOf_6 : decode cX1_opOf 6 = .ok (.getfield 101, 3) := dk_180 0 101 (dk_at dksX1_opOf_0 6 rfl rfl)
theorem dX1_opOf_9 : decode cX1_opOf 9 = .ok (.iconst 1, 1) := dk_4 (dk_at dksX1_opOf_0 9 rfl rfl)
theorem dX1_opOf_10 : decode cX1_opOf 10 = .ok (.isub, 1) := dk_100 (dk_at dksX1_opOf_0 10 rfl rfl)
theorem dX1_opOf_11 : decode cX1_opOf 11 = .ok (.invokestatic 104, 3) := dk_184 0 104 (dk_at dksX1_opOf_0 11 rfl rfl)
theorem dX1_opOf_14 : decode cX1_opOf 14 = .ok (.invokestatic 108, 3) := dk_184 0 108 (dk_at dksX1_opOf_0 14 rfl rfl)
theorem dX1_opOf_17 : decode cX1_opOf 17 = .ok (.aload_n 0, 1) := dk_42 (dk_at dksX1_opOf_0 17 rfl rfl)
theorem dX1_opOf_18 : decode cX1_opOf 18 = .ok (.getfield 22, 3) := dk_180 0 22 (dk_at dksX1_opOf_0 18 rfl rfl)
theorem dX1_opOf_21 : decode cX1_opOf 21 = .ok (.getfield 112, 3) := dk_180 0 112 (dk_at dksX1_opOf_0 21 rfl rfl)
theorem dX1_opOf_24 : decode cX1_opOf 24 = .ok (.iload_n 1, 1) := dk_27 (dk_at dksX1_opOf_1 0 rfl rfl)
theorem dX1_opOf_25 : decode cX1_opOf 25 = .ok (.aaload, 1) := dk_50 (dk_at dksX1_opOf_1 1 rfl rfl)
theorem dX1_opOf_26 : decode cX1_opOf 26 = .ok (.areturn, 1) := dk_176 (dk_at dksX1_opOf_1 2 rfl rfl)
abbrev cX1_mustBe : ByteArray := prog_1_method_6_code
def yX1_mustBe : MethodName := ⟨RX1, "mustBe", "(Z)V"⟩
def dkwX1_mustBe_0 : List UInt8 := [26, 154, 0, 11, 187, 0, 92, 89, 183, 0, 94, 191, 177]
abbrev dktX1_mustBe_0 : List UInt8 := dkwX1_mustBe_0 ++ []
theorem dksX1_mustBe_0 : cX1_mustBe.data.toList.drop 0 = dktX1_mustBe_0 := by decide +kernel
theorem dX1_mustBe_0 : decode cX1_mustBe 0 = .ok (.iload_n 0, 1) := dk_26 (dk_at dksX1_mustBe_0 0 rfl rfl)
theorem dX1_mustBe_1 : decode cX1_mustBe 1 = .ok (.ifCond .ne 11, 3) := dk_154 0 11 (dk_at dksX1_mustBe_0 1 rfl rfl)
theorem dX1_mustBe_4 : decode cX1_mustBe 4 = .ok (.new 92, 3) := dk_187 0 92 (dk_at dksX1_mustBe_0 4 rfl rfl)
theorem dX1_mustBe_7 : decode cX1_mustBe 7 = .ok (.dup, 1) := dk_89 (dk_at dksX1_mustBe_0 7 rfl rfl)
theorem dX1_mustBe_8 : decode cX1_mustBe 8 = .ok (.invokespecial 94, 3) := dk_183 0 94 (dk_at dksX1_mustBe_0 8 rfl rfl)
theorem dX1_mustBe_11 : decode cX1_mustBe 11 = .ok (.athrow, 1) := dk_191 (dk_at dksX1_mustBe_0 11 rfl rfl)
theorem dX1_mustBe_12 : decode cX1_mustBe 12 = .ok (.return_, 1) := dk_177 (dk_at dksX1_mustBe_0 12 rfl rfl)
abbrev cX1_micro : ByteArray := prog_1_method_30_code
def yX1_micro : MethodName := ⟨RX1, "micro", "(IIZ)I"⟩
def dkwX1_micro_2 : List UInt8 := [172]
abbrev dktX1_micro_2 : List UInt8 := dkwX1_micro_2 ++ []
def dkwX1_micro_1 : List UInt8 := [167, 0, 24, 29, 153, 0, 13, 25, 4, 180, 1, 19, 28, 46, 167, 0, 10, 25, 4, 180, 1, 22, 28, 46]
abbrev dktX1_micro_1 : List UInt8 := dkwX1_micro_1 ++ dktX1_micro_2
def dkwX1_micro_0 : List UInt8 := [42, 27, 182, 0, 240, 58, 4, 28, 3, 25, 4, 180, 0, 252, 4, 100, 184, 0, 104, 154, 0, 7, 2]
abbrev dktX1_micro_0 : List UInt8 := dkwX1_micro_0 ++ dktX1_micro_1
theorem dksX1_micro_0 : cX1_micro.data.toList.drop 0 = dktX1_micro_0 := by decide +kernel
theorem dksX1_micro_1 : cX1_micro.data.toList.drop 23 = dktX1_micro_1 := dk_seg dksX1_micro_0 23 rfl rfl
theorem dksX1_micro_2 : cX1_micro.data.toList.drop 47 = dktX1_micro_2 := dk_seg dksX1_micro_1 24 rfl rfl
theorem dX1_micro_0 : decode cX1_micro 0 = .ok (.aload_n 0, 1) := dk_42 (dk_at dksX1_micro_0 0 rfl rfl)
theorem dX1_micro_1 : decode cX1_micro 1 = .ok (.iload_n 1, 1) := dk_27 (dk_at dksX1_micro_0 1 rfl rfl)
theorem dX1_micro_2 : decode cX1_micro 2 = .ok (.invokevirtual 240, 3) := dk_182 0 240 (dk_at dksX1_micro_0 2 rfl rfl)
theorem dX1_micro_5 : decode cX1_micro 5 = .ok (.astore 4, 2) := dk_58 4 (dk_at dksX1_micro_0 5 rfl rfl)
theorem dX1_micro_7 : decode cX1_micro 7 = .ok (.iload_n 2, 1) := dk_28 (dk_at dksX1_micro_0 7 rfl rfl)
theorem dX1_micro_8 : decode cX1_micro 8 = .ok (.iconst 0, 1) := dk_3 (dk_at dksX1_micro_0 8 rfl rfl)
theorem dX1_micro_9 : decode cX1_micro 9 = .ok (.aload 4, 2) := dk_25 4 (dk_at dksX1_micro_0 9 rfl rfl)
theorem dX1_micro_11 : decode cX1_micro 11 = .ok (.getfield 252, 3) := dk_180 0 252 (dk_at dksX1_micro_0 11 rfl rfl)
theorem dX1_micro_14 : decode cX1_micro 14 = .ok (.iconst 1, 1) := dk_4 (dk_at dksX1_micro_0 14 rfl rfl)
theorem dX1_micro_15 : decode cX1_micro 15 = .ok (.isub, 1) := dk_100 (dk_at dksX1_micro_0 15 rfl rfl)
theorem dX1_micro_16 : decode cX1_micro 16 = .ok (.invokestatic 104, 3) := dk_184 0 104 (dk_at dksX1_micro_0 16 rfl rfl)
theorem dX1_micro_19 : decode cX1_micro 19 = .ok (.ifCond .ne 7, 3) := dk_154 0 7 (dk_at dksX1_micro_0 19 rfl rfl)
theorem dX1_micro_22 : decode cX1_micro 22 = .ok (.iconst (-1), 1) := dk_2 (dk_at dksX1_micro_0 22 rfl rfl)
theorem dX1_micro_23 : decode cX1_micro 23 = .ok (.goto 24, 3) := dk_167 0 24 (dk_at dksX1_micro_1 0 rfl rfl)
theorem dX1_micro_26 : decode cX1_micro 26 = .ok (.iload_n 3, 1) := dk_29 (dk_at dksX1_micro_1 3 rfl rfl)
theorem dX1_micro_27 : decode cX1_micro 27 = .ok (.ifCond .eq 13, 3) := dk_153 0 13 (dk_at dksX1_micro_1 4 rfl rfl)
theorem dX1_micro_30 : decode cX1_micro 30 = .ok (.aload 4, 2) := dk_25 4 (dk_at dksX1_micro_1 7 rfl rfl)
theorem dX1_micro_32 : decode cX1_micro 32 = .ok (.getfield 275, 3) := dk_180 1 19 (dk_at dksX1_micro_1 9 rfl rfl)
theorem dX1_micro_35 : decode cX1_micro 35 = .ok (.iload_n 2, 1) := dk_28 (dk_at dksX1_micro_1 12 rfl rfl)
theorem dX1_micro_36 : decode cX1_micro 36 = .ok (.iaload, 1) := dk_46 (dk_at dksX1_micro_1 13 rfl rfl)
theorem dX1_micro_37 : decode cX1_micro 37 = .ok (.goto 10, 3) := dk_167 0 10 (dk_at dksX1_micro_1 14 rfl rfl)
theorem dX1_micro_40 : decode cX1_micro 40 = .ok (.aload 4, 2) := dk_25 4 (dk_at dksX1_micro_1 17 rfl rfl)
theorem dX1_micro_42 : decode cX1_micro 42 = .ok (.getfield 278, 3) := dk_180 1 22 (dk_at dksX1_micro_1 19 rfl rfl)
theorem dX1_micro_45 : decode cX1_micro 45 = .ok (.iload_n 2, 1) := dk_28 (dk_at dksX1_micro_1 22 rfl rfl)
theorem dX1_micro_46 : decode cX1_micro 46 = .ok (.iaload, 1) := dk_46 (dk_at dksX1_micro_1 23 rfl rfl)
theorem dX1_micro_47 : decode cX1_micro 47 = .ok (.ireturn, 1) := dk_172 (dk_at dksX1_micro_2 0 rfl rfl)
abbrev cX1_witness : ByteArray := prog_1_method_31_code
def yX1_witness : MethodName := ⟨RX1, "witness", "(II)I"⟩
def dkwX1_witness_0 : List UInt8 := [42, 27, 182, 0, 240, 78, 28, 3, 6, 184, 0, 104, 184, 1, 25, 45, 180, 0, 233, 28, 46, 172]
abbrev dktX1_witness_0 : List UInt8 := dkwX1_witness_0 ++ []
theorem dksX1_witness_0 : cX1_witness.data.toList.drop 0 = dktX1_witness_0 := by decide +kernel
theorem dX1_witness_0 : decode cX1_witness 0 = .ok (.aload_n 0, 1) := dk_42 (dk_at dksX1_witness_0 0 rfl rfl)
theorem dX1_witness_1 : decode cX1_witness 1 = .ok (.iload_n 1, 1) := dk_27 (dk_at dksX1_witness_0 1 rfl rfl)
theorem dX1_witness_2 : decode cX1_witness 2 = .ok (.invokevirtual 240, 3) := dk_182 0 240 (dk_at dksX1_witness_0 2 rfl rfl)
theorem dX1_witness_5 : decode cX1_witness 5 = .ok (.astore_n 3, 1) := dk_78 (dk_at dksX1_witness_0 5 rfl rfl)
theorem dX1_witness_6 : decode cX1_witness 6 = .ok (.iload_n 2, 1) := dk_28 (dk_at dksX1_witness_0 6 rfl rfl)
theorem dX1_witness_7 : decode cX1_witness 7 = .ok (.iconst 0, 1) := dk_3 (dk_at dksX1_witness_0 7 rfl rfl)
theorem dX1_witness_8 : decode cX1_witness 8 = .ok (.iconst 3, 1) := dk_6 (dk_at dksX1_witness_0 8 rfl rfl)
theorem dX1_witness_9 : decode cX1_witness 9 = .ok (.invokestatic 104, 3) := dk_184 0 104 (dk_at dksX1_witness_0 9 rfl rfl)
theorem dX1_witness_12 : decode cX1_witness 12 = .ok (.invokestatic 281, 3) := dk_184 1 25 (dk_at dksX1_witness_0 12 rfl rfl)
theorem dX1_witness_15 : decode cX1_witness 15 = .ok (.aload_n 3, 1) := dk_45 (dk_at dksX1_witness_0 15 rfl rfl)
theorem dX1_witness_16 : decode cX1_witness 16 = .ok (.getfield 233, 3) := dk_180 0 233 (dk_at dksX1_witness_0 16 rfl rfl)
theorem dX1_witness_19 : decode cX1_witness 19 = .ok (.iload_n 2, 1) := dk_28 (dk_at dksX1_witness_0 19 rfl rfl)
theorem dX1_witness_20 : decode cX1_witness 20 = .ok (.iaload, 1) := dk_46 (dk_at dksX1_witness_0 20 rfl rfl)
theorem dX1_witness_21 : decode cX1_witness 21 = .ok (.ireturn, 1) := dk_172 (dk_at dksX1_witness_0 21 rfl rfl)
abbrev cX1_thereIs : ByteArray := prog_1_method_7_code
def yX1_thereIs : MethodName := ⟨RX1, "thereIs", "(Z)V"⟩
def dkwX1_thereIs_0 : List UInt8 := [26, 154, 0, 11, 187, 0, 95, 89, 183, 0, 97, 191, 177]
abbrev dktX1_thereIs_0 : List UInt8 := dkwX1_thereIs_0 ++ []
theorem dksX1_thereIs_0 : cX1_thereIs.data.toList.drop 0 = dktX1_thereIs_0 := by decide +kernel
theorem dX1_thereIs_0 : decode cX1_thereIs 0 = .ok (.iload_n 0, 1) := dk_26 (dk_at dksX1_thereIs_0 0 rfl rfl)
theorem dX1_thereIs_1 : decode cX1_thereIs 1 = .ok (.ifCond .ne 11, 3) := dk_154 0 11 (dk_at dksX1_thereIs_0 1 rfl rfl)
theorem dX1_thereIs_4 : decode cX1_thereIs 4 = .ok (.new 95, 3) := dk_187 0 95 (dk_at dksX1_thereIs_0 4 rfl rfl)
theorem dX1_thereIs_7 : decode cX1_thereIs 7 = .ok (.dup, 1) := dk_89 (dk_at dksX1_thereIs_0 7 rfl rfl)
theorem dX1_thereIs_8 : decode cX1_thereIs 8 = .ok (.invokespecial 97, 3) := dk_183 0 97 (dk_at dksX1_thereIs_0 8 rfl rfl)
theorem dX1_thereIs_11 : decode cX1_thereIs 11 = .ok (.athrow, 1) := dk_191 (dk_at dksX1_thereIs_0 11 rfl rfl)
theorem dX1_thereIs_12 : decode cX1_thereIs 12 = .ok (.return_, 1) := dk_177 (dk_at dksX1_thereIs_0 12 rfl rfl)
abbrev cX1_done : ByteArray := prog_1_method_32_code
def yX1_done : MethodName := ⟨RX1, "done", "(III)I"⟩
def dkwX1_done_6 : List UInt8 := [42, 180, 0, 35, 180, 1, 34, 29, 8, 100, 46, 172]
abbrev dktX1_done_6 : List UInt8 := dkwX1_done_6 ++ []
def dkwX1_done_5 : List UInt8 := [180, 0, 188, 167, 0, 32, 29, 7, 160, 0, 16, 42, 180, 0, 35, 180, 1, 31, 184, 0, 248, 167, 0, 14]
abbrev dktX1_done_5 : List UInt8 := dkwX1_done_5 ++ dktX1_done_6
def dkwX1_done_4 : List UInt8 := [160, 0, 13, 42, 180, 0, 35, 180, 0, 185, 167, 0, 47, 29, 6, 160, 0, 13, 42, 180, 0, 35]
abbrev dktX1_done_4 : List UInt8 := dkwX1_done_4 ++ dktX1_done_5
def dkwX1_done_3 : List UInt8 := [25, 4, 182, 0, 195, 29, 4, 160, 0, 13, 42, 180, 0, 35, 180, 1, 28, 167, 0, 62, 29, 5]
abbrev dktX1_done_3 : List UInt8 := dkwX1_done_3 ++ dktX1_done_4
def dkwX1_done_2 : List UInt8 := [54, 5, 29, 154, 0, 9, 21, 5, 184, 0, 248, 172, 21, 5, 153, 0, 5, 2, 172, 42, 180, 0, 35]
abbrev dktX1_done_2 : List UInt8 := dkwX1_done_2 ++ dktX1_done_3
def dkwX1_done_1 : List UInt8 := [184, 0, 104, 184, 1, 25, 42, 180, 0, 35, 28, 182, 0, 183, 42, 180, 0, 35, 25, 4, 182, 0, 191]
abbrev dktX1_done_1 : List UInt8 := dkwX1_done_1 ++ dktX1_done_2
def dkwX1_done_0 : List UInt8 := [42, 27, 182, 0, 240, 58, 4, 28, 3, 17, 1, 255, 184, 0, 104, 184, 0, 116, 29, 3, 16, 12]
abbrev dktX1_done_0 : List UInt8 := dkwX1_done_0 ++ dktX1_done_1
theorem dksX1_done_0 : cX1_done.data.toList.drop 0 = dktX1_done_0 := by decide +kernel
theorem dksX1_done_1 : cX1_done.data.toList.drop 22 = dktX1_done_1 := dk_seg dksX1_done_0 22 rfl rfl
theorem dksX1_done_2 : cX1_done.data.toList.drop 45 = dktX1_done_2 := dk_seg dksX1_done_1 23 rfl rfl
theorem dksX1_done_3 : cX1_done.data.toList.drop 68 = dktX1_done_3 := dk_seg dksX1_done_2 23 rfl rfl
theorem dksX1_done_4 : cX1_done.data.toList.drop 90 = dktX1_done_4 := dk_seg dksX1_done_3 22 rfl rfl
theorem dksX1_done_5 : cX1_done.data.toList.drop 112 = dktX1_done_5 := dk_seg dksX1_done_4 22 rfl rfl
theorem dksX1_done_6 : cX1_done.data.toList.drop 136 = dktX1_done_6 := dk_seg dksX1_done_5 24 rfl rfl
theorem dX1_done_0 : decode cX1_done 0 = .ok (.aload_n 0, 1) := dk_42 (dk_at dksX1_done_0 0 rfl rfl)
theorem dX1_done_1 : decode cX1_done 1 = .ok (.iload_n 1, 1) := dk_27 (dk_at dksX1_done_0 1 rfl rfl)
theorem dX1_done_2 : decode cX1_done 2 = .ok (.invokevirtual 240, 3) := dk_182 0 240 (dk_at dksX1_done_0 2 rfl rfl)
theorem dX1_done_5 : decode cX1_done 5 = .ok (.astore 4, 2) := dk_58 4 (dk_at dksX1_done_0 5 rfl rfl)
theorem dX1_done_7 : decode cX1_done 7 = .ok (.iload_n 2, 1) := dk_28 (dk_at dksX1_done_0 7 rfl rfl)
theorem dX1_done_8 : decode cX1_done 8 = .ok (.iconst 0, 1) := dk_3 (dk_at dksX1_done_0 8 rfl rfl)
theorem dX1_done_9 : decode cX1_done 9 = .ok (.sipush 511, 3) := dk_17 1 255 (dk_at dksX1_done_0 9 rfl rfl)
theorem dX1_done_12 : decode cX1_done 12 = .ok (.invokestatic 104, 3) := dk_184 0 104 (dk_at dksX1_done_0 12 rfl rfl)
theorem dX1_done_15 : decode cX1_done 15 = .ok (.invokestatic 116, 3) := dk_184 0 116 (dk_at dksX1_done_0 15 rfl rfl)
theorem dX1_done_18 : decode cX1_done 18 = .ok (.iload_n 3, 1) := dk_29 (dk_at dksX1_done_0 18 rfl rfl)
theorem dX1_done_19 : decode cX1_done 19 = .ok (.iconst 0, 1) := dk_3 (dk_at dksX1_done_0 19 rfl rfl)
theorem dX1_done_20 : decode cX1_done 20 = .ok (.bipush 12, 2) := dk_16 12 (dk_at dksX1_done_0 20 rfl rfl)
theorem dX1_done_22 : decode cX1_done 22 = .ok (.invokestatic 104, 3) := dk_184 0 104 (dk_at dksX1_done_1 0 rfl rfl)
theorem dX1_done_25 : decode cX1_done 25 = .ok (.invokestatic 281, 3) := dk_184 1 25 (dk_at dksX1_done_1 3 rfl rfl)
theorem dX1_done_28 : decode cX1_done 28 = .ok (.aload_n 0, 1) := dk_42 (dk_at dksX1_done_1 6 rfl rfl)
theorem dX1_done_29 : decode cX1_done 29 = .ok (.getfield 35, 3) := dk_180 0 35 (dk_at dksX1_done_1 7 rfl rfl)
theorem dX1_done_32 : decode cX1_done 32 = .ok (.iload_n 2, 1) := dk_28 (dk_at dksX1_done_1 10 rfl rfl)
theorem dX1_done_33 : decode cX1_done 33 = .ok (.invokevirtual 183, 3) := dk_182 0 183 (dk_at dksX1_done_1 11 rfl rfl)
theorem dX1_done_36 : decode cX1_done 36 = .ok (.aload_n 0, 1) := dk_42 (dk_at dksX1_done_1 14 rfl rfl)
theorem dX1_done_37 : decode cX1_done 37 = .ok (.getfield 35, 3) := dk_180 0 35 (dk_at dksX1_done_1 15 rfl rfl)
theorem dX1_done_40 : decode cX1_done 40 = .ok (.aload 4, 2) := dk_25 4 (dk_at dksX1_done_1 18 rfl rfl)
theorem dX1_done_42 : decode cX1_done 42 = .ok (.invokevirtual 191, 3) := dk_182 0 191 (dk_at dksX1_done_1 20 rfl rfl)
theorem dX1_done_45 : decode cX1_done 45 = .ok (.istore 5, 2) := dk_54 5 (dk_at dksX1_done_2 0 rfl rfl)
theorem dX1_done_47 : decode cX1_done 47 = .ok (.iload_n 3, 1) := dk_29 (dk_at dksX1_done_2 2 rfl rfl)
theorem dX1_done_48 : decode cX1_done 48 = .ok (.ifCond .ne 9, 3) := dk_154 0 9 (dk_at dksX1_done_2 3 rfl rfl)
theorem dX1_done_51 : decode cX1_done 51 = .ok (.iload 5, 2) := dk_21 5 (dk_at dksX1_done_2 6 rfl rfl)
theorem dX1_done_53 : decode cX1_done 53 = .ok (.invokestatic 248, 3) := dk_184 0 248 (dk_at dksX1_done_2 8 rfl rfl)
theorem dX1_done_56 : decode cX1_done 56 = .ok (.ireturn, 1) := dk_172 (dk_at dksX1_done_2 11 rfl rfl)
theorem dX1_done_57 : decode cX1_done 57 = .ok (.iload 5, 2) := dk_21 5 (dk_at dksX1_done_2 12 rfl rfl)
theorem dX1_done_59 : decode cX1_done 59 = .ok (.ifCond .eq 5, 3) := dk_153 0 5 (dk_at dksX1_done_2 14 rfl rfl)
theorem dX1_done_62 : decode cX1_done 62 = .ok (.iconst (-1), 1) := dk_2 (dk_at dksX1_done_2 17 rfl rfl)
theorem dX1_done_63 : decode cX1_done 63 = .ok (.ireturn, 1) := dk_172 (dk_at dksX1_done_2 18 rfl rfl)
theorem dX1_done_64 : decode cX1_done 64 = .ok (.aload_n 0, 1) := dk_42 (dk_at dksX1_done_2 19 rfl rfl)
theorem dX1_done_65 : decode cX1_done 65 = .ok (.getfield 35, 3) := dk_180 0 35 (dk_at dksX1_done_2 20 rfl rfl)
theorem dX1_done_68 : decode cX1_done 68 = .ok (.aload 4, 2) := dk_25 4 (dk_at dksX1_done_3 0 rfl rfl)
theorem dX1_done_70 : decode cX1_done 70 = .ok (.invokevirtual 195, 3) := dk_182 0 195 (dk_at dksX1_done_3 2 rfl rfl)
theorem dX1_done_73 : decode cX1_done 73 = .ok (.iload_n 3, 1) := dk_29 (dk_at dksX1_done_3 5 rfl rfl)
theorem dX1_done_74 : decode cX1_done 74 = .ok (.iconst 1, 1) := dk_4 (dk_at dksX1_done_3 6 rfl rfl)
theorem dX1_done_75 : decode cX1_done 75 = .ok (.if_icmp .ne 13, 3) := dk_160 0 13 (dk_at dksX1_done_3 7 rfl rfl)
theorem dX1_done_78 : decode cX1_done 78 = .ok (.aload_n 0, 1) := dk_42 (dk_at dksX1_done_3 10 rfl rfl)
theorem dX1_done_79 : decode cX1_done 79 = .ok (.getfield 35, 3) := dk_180 0 35 (dk_at dksX1_done_3 11 rfl rfl)
theorem dX1_done_82 : decode cX1_done 82 = .ok (.getfield 284, 3) := dk_180 1 28 (dk_at dksX1_done_3 14 rfl rfl)
theorem dX1_done_85 : decode cX1_done 85 = .ok (.goto 62, 3) := dk_167 0 62 (dk_at dksX1_done_3 17 rfl rfl)
theorem dX1_done_88 : decode cX1_done 88 = .ok (.iload_n 3, 1) := dk_29 (dk_at dksX1_done_3 20 rfl rfl)
theorem dX1_done_89 : decode cX1_done 89 = .ok (.iconst 2, 1) := dk_5 (dk_at dksX1_done_3 21 rfl rfl)
theorem dX1_done_90 : decode cX1_done 90 = .ok (.if_icmp .ne 13, 3) := dk_160 0 13 (dk_at dksX1_done_4 0 rfl rfl)
theorem dX1_done_93 : decode cX1_done 93 = .ok (.aload_n 0, 1) := dk_42 (dk_at dksX1_done_4 3 rfl rfl)
theorem dX1_done_94 : decode cX1_done 94 = .ok (.getfield 35, 3) := dk_180 0 35 (dk_at dksX1_done_4 4 rfl rfl)
theorem dX1_done_97 : decode cX1_done 97 = .ok (.getfield 185, 3) := dk_180 0 185 (dk_at dksX1_done_4 7 rfl rfl)
theorem dX1_done_100 : decode cX1_done 100 = .ok (.goto 47, 3) := dk_167 0 47 (dk_at dksX1_done_4 10 rfl rfl)
theorem dX1_done_103 : decode cX1_done 103 = .ok (.iload_n 3, 1) := dk_29 (dk_at dksX1_done_4 13 rfl rfl)
theorem dX1_done_104 : decode cX1_done 104 = .ok (.iconst 3, 1) := dk_6 (dk_at dksX1_done_4 14 rfl rfl)
theorem dX1_done_105 : decode cX1_done 105 = .ok (.if_icmp .ne 13, 3) := dk_160 0 13 (dk_at dksX1_done_4 15 rfl rfl)
theorem dX1_done_108 : decode cX1_done 108 = .ok (.aload_n 0, 1) := dk_42 (dk_at dksX1_done_4 18 rfl rfl)
theorem dX1_done_109 : decode cX1_done 109 = .ok (.getfield 35, 3) := dk_180 0 35 (dk_at dksX1_done_4 19 rfl rfl)
theorem dX1_done_112 : decode cX1_done 112 = .ok (.getfield 188, 3) := dk_180 0 188 (dk_at dksX1_done_5 0 rfl rfl)
theorem dX1_done_115 : decode cX1_done 115 = .ok (.goto 32, 3) := dk_167 0 32 (dk_at dksX1_done_5 3 rfl rfl)
theorem dX1_done_118 : decode cX1_done 118 = .ok (.iload_n 3, 1) := dk_29 (dk_at dksX1_done_5 6 rfl rfl)
theorem dX1_done_119 : decode cX1_done 119 = .ok (.iconst 4, 1) := dk_7 (dk_at dksX1_done_5 7 rfl rfl)
theorem dX1_done_120 : decode cX1_done 120 = .ok (.if_icmp .ne 16, 3) := dk_160 0 16 (dk_at dksX1_done_5 8 rfl rfl)
theorem dX1_done_123 : decode cX1_done 123 = .ok (.aload_n 0, 1) := dk_42 (dk_at dksX1_done_5 11 rfl rfl)
theorem dX1_done_124 : decode cX1_done 124 = .ok (.getfield 35, 3) := dk_180 0 35 (dk_at dksX1_done_5 12 rfl rfl)
theorem dX1_done_127 : decode cX1_done 127 = .ok (.getfield 287, 3) := dk_180 1 31 (dk_at dksX1_done_5 15 rfl rfl)
theorem dX1_done_130 : decode cX1_done 130 = .ok (.invokestatic 248, 3) := dk_184 0 248 (dk_at dksX1_done_5 18 rfl rfl)
theorem dX1_done_133 : decode cX1_done 133 = .ok (.goto 14, 3) := dk_167 0 14 (dk_at dksX1_done_5 21 rfl rfl)
theorem dX1_done_136 : decode cX1_done 136 = .ok (.aload_n 0, 1) := dk_42 (dk_at dksX1_done_6 0 rfl rfl)
theorem dX1_done_137 : decode cX1_done 137 = .ok (.getfield 35, 3) := dk_180 0 35 (dk_at dksX1_done_6 1 rfl rfl)
theorem dX1_done_140 : decode cX1_done 140 = .ok (.getfield 290, 3) := dk_180 1 34 (dk_at dksX1_done_6 4 rfl rfl)
theorem dX1_done_143 : decode cX1_done 143 = .ok (.iload_n 3, 1) := dk_29 (dk_at dksX1_done_6 7 rfl rfl)
theorem dX1_done_144 : decode cX1_done 144 = .ok (.iconst 5, 1) := dk_8 (dk_at dksX1_done_6 8 rfl rfl)
theorem dX1_done_145 : decode cX1_done 145 = .ok (.isub, 1) := dk_100 (dk_at dksX1_done_6 9 rfl rfl)
theorem dX1_done_146 : decode cX1_done 146 = .ok (.iaload, 1) := dk_46 (dk_at dksX1_done_6 10 rfl rfl)
theorem dX1_done_147 : decode cX1_done 147 = .ok (.ireturn, 1) := dk_172 (dk_at dksX1_done_6 11 rfl rfl)
abbrev cX1_must : ByteArray := prog_1_method_4_code
def yX1_must : MethodName := ⟨RX1, "must", "(Z)V"⟩
def dkwX1_must_0 : List UInt8 := [26, 154, 0, 11, 187, 0, 86, 89, 183, 0, 88, 191, 177]
abbrev dktX1_must_0 : List UInt8 := dkwX1_must_0 ++ []
theorem dksX1_must_0 : cX1_must.data.toList.drop 0 = dktX1_must_0 := by decide +kernel
theorem dX1_must_0 : decode cX1_must 0 = .ok (.iload_n 0, 1) := dk_26 (dk_at dksX1_must_0 0 rfl rfl)
theorem dX1_must_1 : decode cX1_must 1 = .ok (.ifCond .ne 11, 3) := dk_154 0 11 (dk_at dksX1_must_0 1 rfl rfl)
theorem dX1_must_4 : decode cX1_must 4 = .ok (.new 86, 3) := dk_187 0 86 (dk_at dksX1_must_0 4 rfl rfl)
theorem dX1_must_7 : decode cX1_must 7 = .ok (.dup, 1) := dk_89 (dk_at dksX1_must_0 7 rfl rfl)
theorem dX1_must_8 : decode cX1_must 8 = .ok (.invokespecial 88, 3) := dk_183 0 88 (dk_at dksX1_must_0 8 rfl rfl)
theorem dX1_must_11 : decode cX1_must 11 = .ok (.athrow, 1) := dk_191 (dk_at dksX1_must_0 11 rfl rfl)
theorem dX1_must_12 : decode cX1_must 12 = .ok (.return_, 1) := dk_177 (dk_at dksX1_must_0 12 rfl rfl)
abbrev cX1_cell : ByteArray := prog_1_method_34_code
def yX1_cell : MethodName := ⟨RX1, "cell", "(I)I"⟩
def dkwX1_cell_0 : List UInt8 := [27, 184, 1, 38, 42, 180, 0, 22, 180, 0, 73, 27, 46, 172]
abbrev dktX1_cell_0 : List UInt8 := dkwX1_cell_0 ++ []
theorem dksX1_cell_0 : cX1_cell.data.toList.drop 0 = dktX1_cell_0 := by decide +kernel
theorem dX1_cell_0 : decode cX1_cell 0 = .ok (.iload_n 1, 1) := dk_27 (dk_at dksX1_cell_0 0 rfl rfl)
theorem dX1_cell_1 : decode cX1_cell 1 = .ok (.invokestatic 294, 3) := dk_184 1 38 (dk_at dksX1_cell_0 1 rfl rfl)
theorem dX1_cell_4 : decode cX1_cell 4 = .ok (.aload_n 0, 1) := dk_42 (dk_at dksX1_cell_0 4 rfl rfl)
theorem dX1_cell_5 : decode cX1_cell 5 = .ok (.getfield 22, 3) := dk_180 0 22 (dk_at dksX1_cell_0 5 rfl rfl)
theorem dX1_cell_8 : decode cX1_cell 8 = .ok (.getfield 73, 3) := dk_180 0 73 (dk_at dksX1_cell_0 8 rfl rfl)
theorem dX1_cell_11 : decode cX1_cell 11 = .ok (.iload_n 1, 1) := dk_27 (dk_at dksX1_cell_0 11 rfl rfl)
theorem dX1_cell_12 : decode cX1_cell 12 = .ok (.iaload, 1) := dk_46 (dk_at dksX1_cell_0 12 rfl rfl)
theorem dX1_cell_13 : decode cX1_cell 13 = .ok (.ireturn, 1) := dk_172 (dk_at dksX1_cell_0 13 rfl rfl)
abbrev cX1_isCell : ByteArray := prog_1_method_11_code
def yX1_isCell : MethodName := ⟨RX1, "isCell", "(I)V"⟩
def dkwX1_isCell_0 : List UInt8 := [26, 3, 16, 7, 184, 0, 104, 184, 0, 108, 177]
abbrev dktX1_isCell_0 : List UInt8 := dkwX1_isCell_0 ++ []
theorem dksX1_isCell_0 : cX1_isCell.data.toList.drop 0 = dktX1_isCell_0 := by decide +kernel
theorem dX1_isCell_0 : decode cX1_isCell 0 = .ok (.iload_n 0, 1) := dk_26 (dk_at dksX1_isCell_0 0 rfl rfl)
theorem dX1_isCell_1 : decode cX1_isCell 1 = .ok (.iconst 0, 1) := dk_3 (dk_at dksX1_isCell_0 1 rfl rfl)
theorem dX1_isCell_2 : decode cX1_isCell 2 = .ok (.bipush 7, 2) := dk_16 7 (dk_at dksX1_isCell_0 2 rfl rfl)
theorem dX1_isCell_4 : decode cX1_isCell 4 = .ok (.invokestatic 104, 3) := dk_184 0 104 (dk_at dksX1_isCell_0 4 rfl rfl)
theorem dX1_isCell_7 : decode cX1_isCell 7 = .ok (.invokestatic 108, 3) := dk_184 0 108 (dk_at dksX1_isCell_0 7 rfl rfl)
theorem dX1_isCell_10 : decode cX1_isCell 10 = .ok (.return_, 1) := dk_177 (dk_at dksX1_isCell_0 10 rfl rfl)
abbrev cX1_guest : ByteArray := prog_1_method_35_code
def yX1_guest : MethodName := ⟨RX1, "guest", "(ZI)I"⟩
def dkwX1_guest_5 : List UInt8 := [160, 0, 7, 4, 167, 0, 4, 3, 184, 0, 248, 172, 45, 28, 16, 6, 100, 182, 1, 51, 172]
abbrev dktX1_guest_5 : List UInt8 := dkwX1_guest_5 ++ []
def dkwX1_guest_4 : List UInt8 := [180, 1, 44, 180, 0, 188, 172, 45, 180, 1, 44, 180, 0, 213, 172, 42, 180, 0, 22, 45, 182, 1, 47, 2]
abbrev dktX1_guest_4 : List UInt8 := dkwX1_guest_4 ++ dktX1_guest_5
def dkwX1_guest_3 : List UInt8 := [45, 180, 1, 41, 172, 45, 180, 1, 44, 180, 1, 28, 172, 45, 180, 1, 44, 180, 0, 185, 172, 45]
abbrev dktX1_guest_3 : List UInt8 := dkwX1_guest_3 ++ dktX1_guest_4
def dkwX1_guest_2 : List UInt8 := [170, 0, 0, 0, 0, 0, 97, 0, 0, 0, 0, 0, 0, 0, 5, 0, 0, 0, 39, 0, 0, 0, 44, 0, 0, 0, 52, 0, 0, 0, 60, 0, 0, 0, 68, 0, 0, 0, 76]
abbrev dktX1_guest_2 : List UInt8 := dkwX1_guest_2 ++ dktX1_guest_3
def dkwX1_guest_1 : List UInt8 := [42, 180, 0, 22, 180, 0, 76, 78, 28]
abbrev dktX1_guest_1 : List UInt8 := dkwX1_guest_1 ++ dktX1_guest_2
def dkwX1_guest_0 : List UInt8 := [28, 3, 16, 13, 184, 0, 104, 184, 1, 25, 27, 153, 0, 13, 42, 180, 0, 22, 180, 0, 79, 167, 0, 10]
abbrev dktX1_guest_0 : List UInt8 := dkwX1_guest_0 ++ dktX1_guest_1
theorem dksX1_guest_0 : cX1_guest.data.toList.drop 0 = dktX1_guest_0 := by decide +kernel
theorem dksX1_guest_1 : cX1_guest.data.toList.drop 24 = dktX1_guest_1 := dk_seg dksX1_guest_0 24 rfl rfl
theorem dksX1_guest_2 : cX1_guest.data.toList.drop 33 = dktX1_guest_2 := dk_seg dksX1_guest_1 9 rfl rfl
theorem dksX1_guest_3 : cX1_guest.data.toList.drop 72 = dktX1_guest_3 := dk_seg dksX1_guest_2 39 rfl rfl
theorem dksX1_guest_4 : cX1_guest.data.toList.drop 94 = dktX1_guest_4 := dk_seg dksX1_guest_3 22 rfl rfl
theorem dksX1_guest_5 : cX1_guest.data.toList.drop 118 = dktX1_guest_5 := dk_seg dksX1_guest_4 24 rfl rfl
theorem dX1_guest_0 : decode cX1_guest 0 = .ok (.iload_n 2, 1) := dk_28 (dk_at dksX1_guest_0 0 rfl rfl)
theorem dX1_guest_1 : decode cX1_guest 1 = .ok (.iconst 0, 1) := dk_3 (dk_at dksX1_guest_0 1 rfl rfl)
theorem dX1_guest_2 : decode cX1_guest 2 = .ok (.bipush 13, 2) := dk_16 13 (dk_at dksX1_guest_0 2 rfl rfl)
theorem dX1_guest_4 : decode cX1_guest 4 = .ok (.invokestatic 104, 3) := dk_184 0 104 (dk_at dksX1_guest_0 4 rfl rfl)
theorem dX1_guest_7 : decode cX1_guest 7 = .ok (.invokestatic 281, 3) := dk_184 1 25 (dk_at dksX1_guest_0 7 rfl rfl)
theorem dX1_guest_10 : decode cX1_guest 10 = .ok (.iload_n 1, 1) := dk_27 (dk_at dksX1_guest_0 10 rfl rfl)
theorem dX1_guest_11 : decode cX1_guest 11 = .ok (.ifCond .eq 13, 3) := dk_153 0 13 (dk_at dksX1_guest_0 11 rfl rfl)
theorem dX1_guest_14 : decode cX1_guest 14 = .ok (.aload_n 0, 1) := dk_42 (dk_at dksX1_guest_0 14 rfl rfl)
theorem dX1_guest_15 : decode cX1_guest 15 = .ok (.getfield 22, 3) := dk_180 0 22 (dk_at dksX1_guest_0 15 rfl rfl)
theorem dX1_guest_18 : decode cX1_guest 18 = .ok (.getfield 79, 3) := dk_180 0 79 (dk_at dksX1_guest_0 18 rfl rfl)
theorem dX1_guest_21 : decode cX1_guest 21 = .ok (.goto 10, 3) := dk_167 0 10 (dk_at dksX1_guest_0 21 rfl rfl)
theorem dX1_guest_24 : decode cX1_guest 24 = .ok (.aload_n 0, 1) := dk_42 (dk_at dksX1_guest_1 0 rfl rfl)
theorem dX1_guest_25 : decode cX1_guest 25 = .ok (.getfield 22, 3) := dk_180 0 22 (dk_at dksX1_guest_1 1 rfl rfl)
theorem dX1_guest_28 : decode cX1_guest 28 = .ok (.getfield 76, 3) := dk_180 0 76 (dk_at dksX1_guest_1 4 rfl rfl)
theorem dX1_guest_31 : decode cX1_guest 31 = .ok (.astore_n 3, 1) := dk_78 (dk_at dksX1_guest_1 7 rfl rfl)
theorem dX1_guest_32 : decode cX1_guest 32 = .ok (.iload_n 2, 1) := dk_28 (dk_at dksX1_guest_1 8 rfl rfl)
theorem dX1_guest_33 : decode cX1_guest 33 = .ok (.tableswitch 97 0 5 #[39, 44, 52, 60, 68, 76], 39) := by decide +kernel
theorem dX1_guest_72 : decode cX1_guest 72 = .ok (.aload_n 3, 1) := dk_45 (dk_at dksX1_guest_3 0 rfl rfl)
theorem dX1_guest_73 : decode cX1_guest 73 = .ok (.getfield 297, 3) := dk_180 1 41 (dk_at dksX1_guest_3 1 rfl rfl)
theorem dX1_guest_76 : decode cX1_guest 76 = .ok (.ireturn, 1) := dk_172 (dk_at dksX1_guest_3 4 rfl rfl)
theorem dX1_guest_77 : decode cX1_guest 77 = .ok (.aload_n 3, 1) := dk_45 (dk_at dksX1_guest_3 5 rfl rfl)
theorem dX1_guest_78 : decode cX1_guest 78 = .ok (.getfield 300, 3) := dk_180 1 44 (dk_at dksX1_guest_3 6 rfl rfl)
theorem dX1_guest_81 : decode cX1_guest 81 = .ok (.getfield 284, 3) := dk_180 1 28 (dk_at dksX1_guest_3 9 rfl rfl)
theorem dX1_guest_84 : decode cX1_guest 84 = .ok (.ireturn, 1) := dk_172 (dk_at dksX1_guest_3 12 rfl rfl)
theorem dX1_guest_85 : decode cX1_guest 85 = .ok (.aload_n 3, 1) := dk_45 (dk_at dksX1_guest_3 13 rfl rfl)
theorem dX1_guest_86 : decode cX1_guest 86 = .ok (.getfield 300, 3) := dk_180 1 44 (dk_at dksX1_guest_3 14 rfl rfl)
theorem dX1_guest_89 : decode cX1_guest 89 = .ok (.getfield 185, 3) := dk_180 0 185 (dk_at dksX1_guest_3 17 rfl rfl)
theorem dX1_guest_92 : decode cX1_guest 92 = .ok (.ireturn, 1) := dk_172 (dk_at dksX1_guest_3 20 rfl rfl)
theorem dX1_guest_93 : decode cX1_guest 93 = .ok (.aload_n 3, 1) := dk_45 (dk_at dksX1_guest_3 21 rfl rfl)
theorem dX1_guest_94 : decode cX1_guest 94 = .ok (.getfield 300, 3) := dk_180 1 44 (dk_at dksX1_guest_4 0 rfl rfl)
theorem dX1_guest_97 : decode cX1_guest 97 = .ok (.getfield 188, 3) := dk_180 0 188 (dk_at dksX1_guest_4 3 rfl rfl)
theorem dX1_guest_100 : decode cX1_guest 100 = .ok (.ireturn, 1) := dk_172 (dk_at dksX1_guest_4 6 rfl rfl)
theorem dX1_guest_101 : decode cX1_guest 101 = .ok (.aload_n 3, 1) := dk_45 (dk_at dksX1_guest_4 7 rfl rfl)
theorem dX1_guest_102 : decode cX1_guest 102 = .ok (.getfield 300, 3) := dk_180 1 44 (dk_at dksX1_guest_4 8 rfl rfl)
theorem dX1_guest_105 : decode cX1_guest 105 = .ok (.getfield 213, 3) := dk_180 0 213 (dk_at dksX1_guest_4 11 rfl rfl)
theorem dX1_guest_108 : decode cX1_guest 108 = .ok (.ireturn, 1) := dk_172 (dk_at dksX1_guest_4 14 rfl rfl)
theorem dX1_guest_109 : decode cX1_guest 109 = .ok (.aload_n 0, 1) := dk_42 (dk_at dksX1_guest_4 15 rfl rfl)
theorem dX1_guest_110 : decode cX1_guest 110 = .ok (.getfield 22, 3) := dk_180 0 22 (dk_at dksX1_guest_4 16 rfl rfl)
theorem dX1_guest_113 : decode cX1_guest 113 = .ok (.aload_n 3, 1) := dk_45 (dk_at dksX1_guest_4 19 rfl rfl)
theorem dX1_guest_114 : decode cX1_guest 114 = .ok (.invokevirtual 303, 3) := dk_182 1 47 (dk_at dksX1_guest_4 20 rfl rfl)
theorem dX1_guest_117 : decode cX1_guest 117 = .ok (.iconst (-1), 1) := dk_2 (dk_at dksX1_guest_4 23 rfl rfl)
theorem dX1_guest_118 : decode cX1_guest 118 = .ok (.if_icmp .ne 7, 3) := dk_160 0 7 (dk_at dksX1_guest_5 0 rfl rfl)
theorem dX1_guest_121 : decode cX1_guest 121 = .ok (.iconst 1, 1) := dk_4 (dk_at dksX1_guest_5 3 rfl rfl)
theorem dX1_guest_122 : decode cX1_guest 122 = .ok (.goto 4, 3) := dk_167 0 4 (dk_at dksX1_guest_5 4 rfl rfl)
theorem dX1_guest_125 : decode cX1_guest 125 = .ok (.iconst 0, 1) := dk_3 (dk_at dksX1_guest_5 7 rfl rfl)
theorem dX1_guest_126 : decode cX1_guest 126 = .ok (.invokestatic 248, 3) := dk_184 0 248 (dk_at dksX1_guest_5 8 rfl rfl)
theorem dX1_guest_129 : decode cX1_guest 129 = .ok (.ireturn, 1) := dk_172 (dk_at dksX1_guest_5 11 rfl rfl)
theorem dX1_guest_130 : decode cX1_guest 130 = .ok (.aload_n 3, 1) := dk_45 (dk_at dksX1_guest_5 12 rfl rfl)
theorem dX1_guest_131 : decode cX1_guest 131 = .ok (.iload_n 2, 1) := dk_28 (dk_at dksX1_guest_5 13 rfl rfl)
theorem dX1_guest_132 : decode cX1_guest 132 = .ok (.bipush 6, 2) := dk_16 6 (dk_at dksX1_guest_5 14 rfl rfl)
theorem dX1_guest_134 : decode cX1_guest 134 = .ok (.isub, 1) := dk_100 (dk_at dksX1_guest_5 16 rfl rfl)
theorem dX1_guest_135 : decode cX1_guest 135 = .ok (.invokevirtual 307, 3) := dk_182 1 51 (dk_at dksX1_guest_5 17 rfl rfl)
theorem dX1_guest_138 : decode cX1_guest 138 = .ok (.ireturn, 1) := dk_172 (dk_at dksX1_guest_5 20 rfl rfl)
abbrev cX1_ticks : ByteArray := prog_1_method_38_code
def yX1_ticks : MethodName := ⟨RX1, "ticks", "(I)I"⟩
def dkwX1_ticks_0 : List UInt8 := [27, 4, 16, 60, 184, 0, 104, 184, 0, 116, 42, 182, 1, 67, 42, 27, 4, 182, 1, 70, 172]
abbrev dktX1_ticks_0 : List UInt8 := dkwX1_ticks_0 ++ []
theorem dksX1_ticks_0 : cX1_ticks.data.toList.drop 0 = dktX1_ticks_0 := by decide +kernel
theorem dX1_ticks_0 : decode cX1_ticks 0 = .ok (.iload_n 1, 1) := dk_27 (dk_at dksX1_ticks_0 0 rfl rfl)
theorem dX1_ticks_1 : decode cX1_ticks 1 = .ok (.iconst 1, 1) := dk_4 (dk_at dksX1_ticks_0 1 rfl rfl)
theorem dX1_ticks_2 : decode cX1_ticks 2 = .ok (.bipush 60, 2) := dk_16 60 (dk_at dksX1_ticks_0 2 rfl rfl)
theorem dX1_ticks_4 : decode cX1_ticks 4 = .ok (.invokestatic 104, 3) := dk_184 0 104 (dk_at dksX1_ticks_0 4 rfl rfl)
theorem dX1_ticks_7 : decode cX1_ticks 7 = .ok (.invokestatic 116, 3) := dk_184 0 116 (dk_at dksX1_ticks_0 7 rfl rfl)
theorem dX1_ticks_10 : decode cX1_ticks 10 = .ok (.aload_n 0, 1) := dk_42 (dk_at dksX1_ticks_0 10 rfl rfl)
theorem dX1_ticks_11 : decode cX1_ticks 11 = .ok (.invokevirtual 323, 3) := dk_182 1 67 (dk_at dksX1_ticks_0 11 rfl rfl)
theorem dX1_ticks_14 : decode cX1_ticks 14 = .ok (.aload_n 0, 1) := dk_42 (dk_at dksX1_ticks_0 14 rfl rfl)
theorem dX1_ticks_15 : decode cX1_ticks 15 = .ok (.iload_n 1, 1) := dk_27 (dk_at dksX1_ticks_0 15 rfl rfl)
theorem dX1_ticks_16 : decode cX1_ticks 16 = .ok (.iconst 1, 1) := dk_4 (dk_at dksX1_ticks_0 16 rfl rfl)
theorem dX1_ticks_17 : decode cX1_ticks 17 = .ok (.invokevirtual 326, 3) := dk_182 1 70 (dk_at dksX1_ticks_0 17 rfl rfl)
theorem dX1_ticks_20 : decode cX1_ticks 20 = .ok (.ireturn, 1) := dk_172 (dk_at dksX1_ticks_0 20 rfl rfl)
abbrev cX1_goOn : ByteArray := prog_1_method_37_code
def yX1_goOn : MethodName := ⟨RX1, "goOn", "(IZ)I"⟩
def dkwX1_goOn_1 : List UInt8 := [62, 132, 4, 1, 167, 255, 233, 29, 172]
abbrev dktX1_goOn_1 : List UInt8 := dkwX1_goOn_1 ++ []
def dkwX1_goOn_0 : List UInt8 := [3, 62, 3, 54, 4, 21, 4, 27, 162, 0, 23, 29, 42, 180, 0, 22, 28, 182, 1, 63, 184, 0, 248, 96]
abbrev dktX1_goOn_0 : List UInt8 := dkwX1_goOn_0 ++ dktX1_goOn_1
theorem dksX1_goOn_0 : cX1_goOn.data.toList.drop 0 = dktX1_goOn_0 := by decide +kernel
theorem dksX1_goOn_1 : cX1_goOn.data.toList.drop 24 = dktX1_goOn_1 := dk_seg dksX1_goOn_0 24 rfl rfl
theorem dX1_goOn_0 : decode cX1_goOn 0 = .ok (.iconst 0, 1) := dk_3 (dk_at dksX1_goOn_0 0 rfl rfl)
theorem dX1_goOn_1 : decode cX1_goOn 1 = .ok (.istore_n 3, 1) := dk_62 (dk_at dksX1_goOn_0 1 rfl rfl)
theorem dX1_goOn_2 : decode cX1_goOn 2 = .ok (.iconst 0, 1) := dk_3 (dk_at dksX1_goOn_0 2 rfl rfl)
theorem dX1_goOn_3 : decode cX1_goOn 3 = .ok (.istore 4, 2) := dk_54 4 (dk_at dksX1_goOn_0 3 rfl rfl)
theorem dX1_goOn_5 : decode cX1_goOn 5 = .ok (.iload 4, 2) := dk_21 4 (dk_at dksX1_goOn_0 5 rfl rfl)
theorem dX1_goOn_7 : decode cX1_goOn 7 = .ok (.iload_n 1, 1) := dk_27 (dk_at dksX1_goOn_0 7 rfl rfl)
theorem dX1_goOn_8 : decode cX1_goOn 8 = .ok (.if_icmp .ge 23, 3) := dk_162 0 23 (dk_at dksX1_goOn_0 8 rfl rfl)
theorem dX1_goOn_11 : decode cX1_goOn 11 = .ok (.iload_n 3, 1) := dk_29 (dk_at dksX1_goOn_0 11 rfl rfl)
theorem dX1_goOn_12 : decode cX1_goOn 12 = .ok (.aload_n 0, 1) := dk_42 (dk_at dksX1_goOn_0 12 rfl rfl)
theorem dX1_goOn_13 : decode cX1_goOn 13 = .ok (.getfield 22, 3) := dk_180 0 22 (dk_at dksX1_goOn_0 13 rfl rfl)
theorem dX1_goOn_16 : decode cX1_goOn 16 = .ok (.iload_n 2, 1) := dk_28 (dk_at dksX1_goOn_0 16 rfl rfl)
theorem dX1_goOn_17 : decode cX1_goOn 17 = .ok (.invokevirtual 319, 3) := dk_182 1 63 (dk_at dksX1_goOn_0 17 rfl rfl)
theorem dX1_goOn_20 : decode cX1_goOn 20 = .ok (.invokestatic 248, 3) := dk_184 0 248 (dk_at dksX1_goOn_0 20 rfl rfl)
theorem dX1_goOn_23 : decode cX1_goOn 23 = .ok (.iadd, 1) := dk_96 (dk_at dksX1_goOn_0 23 rfl rfl)
theorem dX1_goOn_24 : decode cX1_goOn 24 = .ok (.istore_n 3, 1) := dk_62 (dk_at dksX1_goOn_1 0 rfl rfl)
theorem dX1_goOn_25 : decode cX1_goOn 25 = .ok (.iinc 4 1, 3) := dk_132 4 1 (dk_at dksX1_goOn_1 1 rfl rfl)
theorem dX1_goOn_28 : decode cX1_goOn 28 = .ok (.goto (-23), 3) := dk_167 255 233 (dk_at dksX1_goOn_1 4 rfl rfl)
theorem dX1_goOn_31 : decode cX1_goOn 31 = .ok (.iload_n 3, 1) := dk_29 (dk_at dksX1_goOn_1 7 rfl rfl)
theorem dX1_goOn_32 : decode cX1_goOn 32 = .ok (.ireturn, 1) := dk_172 (dk_at dksX1_goOn_1 8 rfl rfl)
abbrev cX1_patch : ByteArray := prog_1_method_41_code
def yX1_patch : MethodName := ⟨RX1, "patch", "(IZ)Z"⟩
def dkwX1_patch_1 : List UInt8 := [182, 1, 74, 21, 4, 28, 159, 0, 7, 4, 167, 0, 4, 3, 172]
abbrev dktX1_patch_1 : List UInt8 := dkwX1_patch_1 ++ []
def dkwX1_patch_0 : List UInt8 := [42, 27, 182, 0, 240, 78, 42, 182, 1, 67, 45, 180, 0, 253, 54, 4, 45, 28, 181, 0, 253, 42]
abbrev dktX1_patch_0 : List UInt8 := dkwX1_patch_0 ++ dktX1_patch_1
theorem dksX1_patch_0 : cX1_patch.data.toList.drop 0 = dktX1_patch_0 := by decide +kernel
theorem dksX1_patch_1 : cX1_patch.data.toList.drop 22 = dktX1_patch_1 := dk_seg dksX1_patch_0 22 rfl rfl
theorem dX1_patch_0 : decode cX1_patch 0 = .ok (.aload_n 0, 1) := dk_42 (dk_at dksX1_patch_0 0 rfl rfl)
theorem dX1_patch_1 : decode cX1_patch 1 = .ok (.iload_n 1, 1) := dk_27 (dk_at dksX1_patch_0 1 rfl rfl)
theorem dX1_patch_2 : decode cX1_patch 2 = .ok (.invokevirtual 240, 3) := dk_182 0 240 (dk_at dksX1_patch_0 2 rfl rfl)
theorem dX1_patch_5 : decode cX1_patch 5 = .ok (.astore_n 3, 1) := dk_78 (dk_at dksX1_patch_0 5 rfl rfl)
theorem dX1_patch_6 : decode cX1_patch 6 = .ok (.aload_n 0, 1) := dk_42 (dk_at dksX1_patch_0 6 rfl rfl)
theorem dX1_patch_7 : decode cX1_patch 7 = .ok (.invokevirtual 323, 3) := dk_182 1 67 (dk_at dksX1_patch_0 7 rfl rfl)
theorem dX1_patch_10 : decode cX1_patch 10 = .ok (.aload_n 3, 1) := dk_45 (dk_at dksX1_patch_0 10 rfl rfl)
theorem dX1_patch_11 : decode cX1_patch 11 = .ok (.getfield 253, 3) := dk_180 0 253 (dk_at dksX1_patch_0 11 rfl rfl)
theorem dX1_patch_14 : decode cX1_patch 14 = .ok (.istore 4, 2) := dk_54 4 (dk_at dksX1_patch_0 14 rfl rfl)
theorem dX1_patch_16 : decode cX1_patch 16 = .ok (.aload_n 3, 1) := dk_45 (dk_at dksX1_patch_0 16 rfl rfl)
theorem dX1_patch_17 : decode cX1_patch 17 = .ok (.iload_n 2, 1) := dk_28 (dk_at dksX1_patch_0 17 rfl rfl)
theorem dX1_patch_18 : decode cX1_patch 18 = .ok (.putfield 253, 3) := dk_181 0 253 (dk_at dksX1_patch_0 18 rfl rfl)
theorem dX1_patch_21 : decode cX1_patch 21 = .ok (.aload_n 0, 1) := dk_42 (dk_at dksX1_patch_0 21 rfl rfl)
theorem dX1_patch_22 : decode cX1_patch 22 = .ok (.invokevirtual 330, 3) := dk_182 1 74 (dk_at dksX1_patch_1 0 rfl rfl)
theorem dX1_patch_25 : decode cX1_patch 25 = .ok (.iload 4, 2) := dk_21 4 (dk_at dksX1_patch_1 3 rfl rfl)
theorem dX1_patch_27 : decode cX1_patch 27 = .ok (.iload_n 2, 1) := dk_28 (dk_at dksX1_patch_1 5 rfl rfl)
theorem dX1_patch_28 : decode cX1_patch 28 = .ok (.if_icmp .eq 7, 3) := dk_159 0 7 (dk_at dksX1_patch_1 6 rfl rfl)
theorem dX1_patch_31 : decode cX1_patch 31 = .ok (.iconst 1, 1) := dk_4 (dk_at dksX1_patch_1 9 rfl rfl)
theorem dX1_patch_32 : decode cX1_patch 32 = .ok (.goto 4, 3) := dk_167 0 4 (dk_at dksX1_patch_1 10 rfl rfl)
theorem dX1_patch_35 : decode cX1_patch 35 = .ok (.iconst 0, 1) := dk_3 (dk_at dksX1_patch_1 13 rfl rfl)
theorem dX1_patch_36 : decode cX1_patch 36 = .ok (.ireturn, 1) := dk_172 (dk_at dksX1_patch_1 14 rfl rfl)
abbrev cX1_guard : ByteArray := prog_1_method_42_code
def yX1_guard : MethodName := ⟨RX1, "guard", "(IZ)Z"⟩
def dkwX1_guard_1 : List UInt8 := [182, 0, 160, 42, 182, 1, 74, 21, 4, 28, 159, 0, 7, 4, 167, 0, 4, 3, 172]
abbrev dktX1_guard_1 : List UInt8 := dkwX1_guard_1 ++ []
def dkwX1_guard_0 : List UInt8 := [42, 27, 182, 0, 240, 78, 42, 182, 1, 67, 45, 180, 0, 199, 54, 4, 45, 28, 181, 0, 199, 42]
abbrev dktX1_guard_0 : List UInt8 := dkwX1_guard_0 ++ dktX1_guard_1
theorem dksX1_guard_0 : cX1_guard.data.toList.drop 0 = dktX1_guard_0 := by decide +kernel
theorem dksX1_guard_1 : cX1_guard.data.toList.drop 22 = dktX1_guard_1 := dk_seg dksX1_guard_0 22 rfl rfl
theorem dX1_guard_0 : decode cX1_guard 0 = .ok (.aload_n 0, 1) := dk_42 (dk_at dksX1_guard_0 0 rfl rfl)
theorem dX1_guard_1 : decode cX1_guard 1 = .ok (.iload_n 1, 1) := dk_27 (dk_at dksX1_guard_0 1 rfl rfl)
theorem dX1_guard_2 : decode cX1_guard 2 = .ok (.invokevirtual 240, 3) := dk_182 0 240 (dk_at dksX1_guard_0 2 rfl rfl)
theorem dX1_guard_5 : decode cX1_guard 5 = .ok (.astore_n 3, 1) := dk_78 (dk_at dksX1_guard_0 5 rfl rfl)
theorem dX1_guard_6 : decode cX1_guard 6 = .ok (.aload_n 0, 1) := dk_42 (dk_at dksX1_guard_0 6 rfl rfl)
theorem dX1_guard_7 : decode cX1_guard 7 = .ok (.invokevirtual 323, 3) := dk_182 1 67 (dk_at dksX1_guard_0 7 rfl rfl)
theorem dX1_guard_10 : decode cX1_guard 10 = .ok (.aload_n 3, 1) := dk_45 (dk_at dksX1_guard_0 10 rfl rfl)
theorem dX1_guard_11 : decode cX1_guard 11 = .ok (.getfield 199, 3) := dk_180 0 199 (dk_at dksX1_guard_0 11 rfl rfl)
theorem dX1_guard_14 : decode cX1_guard 14 = .ok (.istore 4, 2) := dk_54 4 (dk_at dksX1_guard_0 14 rfl rfl)
theorem dX1_guard_16 : decode cX1_guard 16 = .ok (.aload_n 3, 1) := dk_45 (dk_at dksX1_guard_0 16 rfl rfl)
theorem dX1_guard_17 : decode cX1_guard 17 = .ok (.iload_n 2, 1) := dk_28 (dk_at dksX1_guard_0 17 rfl rfl)
theorem dX1_guard_18 : decode cX1_guard 18 = .ok (.putfield 199, 3) := dk_181 0 199 (dk_at dksX1_guard_0 18 rfl rfl)
theorem dX1_guard_21 : decode cX1_guard 21 = .ok (.aload_n 0, 1) := dk_42 (dk_at dksX1_guard_0 21 rfl rfl)
theorem dX1_guard_22 : decode cX1_guard 22 = .ok (.invokevirtual 160, 3) := dk_182 0 160 (dk_at dksX1_guard_1 0 rfl rfl)
theorem dX1_guard_25 : decode cX1_guard 25 = .ok (.aload_n 0, 1) := dk_42 (dk_at dksX1_guard_1 3 rfl rfl)
theorem dX1_guard_26 : decode cX1_guard 26 = .ok (.invokevirtual 330, 3) := dk_182 1 74 (dk_at dksX1_guard_1 4 rfl rfl)
theorem dX1_guard_29 : decode cX1_guard 29 = .ok (.iload 4, 2) := dk_21 4 (dk_at dksX1_guard_1 7 rfl rfl)
theorem dX1_guard_31 : decode cX1_guard 31 = .ok (.iload_n 2, 1) := dk_28 (dk_at dksX1_guard_1 9 rfl rfl)
theorem dX1_guard_32 : decode cX1_guard 32 = .ok (.if_icmp .eq 7, 3) := dk_159 0 7 (dk_at dksX1_guard_1 10 rfl rfl)
theorem dX1_guard_35 : decode cX1_guard 35 = .ok (.iconst 1, 1) := dk_4 (dk_at dksX1_guard_1 13 rfl rfl)
theorem dX1_guard_36 : decode cX1_guard 36 = .ok (.goto 4, 3) := dk_167 0 4 (dk_at dksX1_guard_1 14 rfl rfl)
theorem dX1_guard_39 : decode cX1_guard 39 = .ok (.iconst 0, 1) := dk_3 (dk_at dksX1_guard_1 17 rfl rfl)
theorem dX1_guard_40 : decode cX1_guard 40 = .ok (.ireturn, 1) := dk_172 (dk_at dksX1_guard_1 18 rfl rfl)
abbrev cX1_put : ByteArray := prog_1_method_43_code
def yX1_put : MethodName := ⟨RX1, "put", "(II)I"⟩
def dkwX1_put_3 : List UInt8 := [29, 172]
abbrev dktX1_put_3 : List UInt8 := dkwX1_put_3 ++ []
def dkwX1_put_2 : List UInt8 := [42, 180, 0, 22, 42, 180, 0, 22, 180, 1, 16, 27, 4, 96, 184, 1, 79, 181, 1, 16, 42, 182, 1, 74]
abbrev dktX1_put_2 : List UInt8 := dkwX1_put_2 ++ dktX1_put_3
def dkwX1_put_1 : List UInt8 := [182, 0, 240, 87, 42, 182, 1, 67, 42, 27, 182, 1, 77, 62, 42, 180, 0, 22, 180, 1, 37, 27, 28, 79]
abbrev dktX1_put_1 : List UInt8 := dkwX1_put_1 ++ dktX1_put_2
def dkwX1_put_0 : List UInt8 := [27, 3, 42, 180, 0, 22, 180, 1, 16, 16, 9, 184, 1, 57, 184, 0, 104, 184, 0, 108, 42, 28]
abbrev dktX1_put_0 : List UInt8 := dkwX1_put_0 ++ dktX1_put_1
theorem dksX1_put_0 : cX1_put.data.toList.drop 0 = dktX1_put_0 := by decide +kernel
theorem dksX1_put_1 : cX1_put.data.toList.drop 22 = dktX1_put_1 := dk_seg dksX1_put_0 22 rfl rfl
theorem dksX1_put_2 : cX1_put.data.toList.drop 46 = dktX1_put_2 := dk_seg dksX1_put_1 24 rfl rfl
theorem dksX1_put_3 : cX1_put.data.toList.drop 70 = dktX1_put_3 := dk_seg dksX1_put_2 24 rfl rfl
theorem dX1_put_0 : decode cX1_put 0 = .ok (.iload_n 1, 1) := dk_27 (dk_at dksX1_put_0 0 rfl rfl)
theorem dX1_put_1 : decode cX1_put 1 = .ok (.iconst 0, 1) := dk_3 (dk_at dksX1_put_0 1 rfl rfl)
theorem dX1_put_2 : decode cX1_put 2 = .ok (.aload_n 0, 1) := dk_42 (dk_at dksX1_put_0 2 rfl rfl)
theorem dX1_put_3 : decode cX1_put 3 = .ok (.getfield 22, 3) := dk_180 0 22 (dk_at dksX1_put_0 3 rfl rfl)
theorem dX1_put_6 : decode cX1_put 6 = .ok (.getfield 272, 3) := dk_180 1 16 (dk_at dksX1_put_0 6 rfl rfl)
theorem dX1_put_9 : decode cX1_put 9 = .ok (.bipush 9, 2) := dk_16 9 (dk_at dksX1_put_0 9 rfl rfl)
theorem dX1_put_11 : decode cX1_put 11 = .ok (.invokestatic 313, 3) := dk_184 1 57 (dk_at dksX1_put_0 11 rfl rfl)
theorem dX1_put_14 : decode cX1_put 14 = .ok (.invokestatic 104, 3) := dk_184 0 104 (dk_at dksX1_put_0 14 rfl rfl)
theorem dX1_put_17 : decode cX1_put 17 = .ok (.invokestatic 108, 3) := dk_184 0 108 (dk_at dksX1_put_0 17 rfl rfl)
theorem dX1_put_20 : decode cX1_put 20 = .ok (.aload_n 0, 1) := dk_42 (dk_at dksX1_put_0 20 rfl rfl)
theorem dX1_put_21 : decode cX1_put 21 = .ok (.iload_n 2, 1) := dk_28 (dk_at dksX1_put_0 21 rfl rfl)
theorem dX1_put_22 : decode cX1_put 22 = .ok (.invokevirtual 240, 3) := dk_182 0 240 (dk_at dksX1_put_1 0 rfl rfl)
theorem dX1_put_25 : decode cX1_put 25 = .ok (.pop, 1) := dk_87 (dk_at dksX1_put_1 3 rfl rfl)
theorem dX1_put_26 : decode cX1_put 26 = .ok (.aload_n 0, 1) := dk_42 (dk_at dksX1_put_1 4 rfl rfl)
theorem dX1_put_27 : decode cX1_put 27 = .ok (.invokevirtual 323, 3) := dk_182 1 67 (dk_at dksX1_put_1 5 rfl rfl)
theorem dX1_put_30 : decode cX1_put 30 = .ok (.aload_n 0, 1) := dk_42 (dk_at dksX1_put_1 8 rfl rfl)
theorem dX1_put_31 : decode cX1_put 31 = .ok (.iload_n 1, 1) := dk_27 (dk_at dksX1_put_1 9 rfl rfl)
theorem dX1_put_32 : decode cX1_put 32 = .ok (.invokevirtual 333, 3) := dk_182 1 77 (dk_at dksX1_put_1 10 rfl rfl)
theorem dX1_put_35 : decode cX1_put 35 = .ok (.istore_n 3, 1) := dk_62 (dk_at dksX1_put_1 13 rfl rfl)
theorem dX1_put_36 : decode cX1_put 36 = .ok (.aload_n 0, 1) := dk_42 (dk_at dksX1_put_1 14 rfl rfl)
theorem dX1_put_37 : decode cX1_put 37 = .ok (.getfield 22, 3) := dk_180 0 22 (dk_at dksX1_put_1 15 rfl rfl)
theorem dX1_put_40 : decode cX1_put 40 = .ok (.getfield 293, 3) := dk_180 1 37 (dk_at dksX1_put_1 18 rfl rfl)
theorem dX1_put_43 : decode cX1_put 43 = .ok (.iload_n 1, 1) := dk_27 (dk_at dksX1_put_1 21 rfl rfl)
theorem dX1_put_44 : decode cX1_put 44 = .ok (.iload_n 2, 1) := dk_28 (dk_at dksX1_put_1 22 rfl rfl)
theorem dX1_put_45 : decode cX1_put 45 = .ok (.iastore, 1) := dk_79 (dk_at dksX1_put_1 23 rfl rfl)
theorem dX1_put_46 : decode cX1_put 46 = .ok (.aload_n 0, 1) := dk_42 (dk_at dksX1_put_2 0 rfl rfl)
theorem dX1_put_47 : decode cX1_put 47 = .ok (.getfield 22, 3) := dk_180 0 22 (dk_at dksX1_put_2 1 rfl rfl)
theorem dX1_put_50 : decode cX1_put 50 = .ok (.aload_n 0, 1) := dk_42 (dk_at dksX1_put_2 4 rfl rfl)
theorem dX1_put_51 : decode cX1_put 51 = .ok (.getfield 22, 3) := dk_180 0 22 (dk_at dksX1_put_2 5 rfl rfl)
theorem dX1_put_54 : decode cX1_put 54 = .ok (.getfield 272, 3) := dk_180 1 16 (dk_at dksX1_put_2 8 rfl rfl)
theorem dX1_put_57 : decode cX1_put 57 = .ok (.iload_n 1, 1) := dk_27 (dk_at dksX1_put_2 11 rfl rfl)
theorem dX1_put_58 : decode cX1_put 58 = .ok (.iconst 1, 1) := dk_4 (dk_at dksX1_put_2 12 rfl rfl)
theorem dX1_put_59 : decode cX1_put 59 = .ok (.iadd, 1) := dk_96 (dk_at dksX1_put_2 13 rfl rfl)
theorem dX1_put_60 : decode cX1_put 60 = .ok (.invokestatic 335, 3) := dk_184 1 79 (dk_at dksX1_put_2 14 rfl rfl)
theorem dX1_put_63 : decode cX1_put 63 = .ok (.putfield 272, 3) := dk_181 1 16 (dk_at dksX1_put_2 17 rfl rfl)
theorem dX1_put_66 : decode cX1_put 66 = .ok (.aload_n 0, 1) := dk_42 (dk_at dksX1_put_2 20 rfl rfl)
theorem dX1_put_67 : decode cX1_put 67 = .ok (.invokevirtual 330, 3) := dk_182 1 74 (dk_at dksX1_put_2 21 rfl rfl)
theorem dX1_put_70 : decode cX1_put 70 = .ok (.iload_n 3, 1) := dk_29 (dk_at dksX1_put_3 0 rfl rfl)
theorem dX1_put_71 : decode cX1_put 71 = .ok (.ireturn, 1) := dk_172 (dk_at dksX1_put_3 1 rfl rfl)
abbrev cX1_store : ByteArray := prog_1_method_44_code
def yX1_store : MethodName := ⟨RX1, "store", "(II)I"⟩
def dkwX1_store_1 : List UInt8 := [27, 46, 62, 42, 180, 0, 22, 180, 0, 73, 27, 28, 79, 42, 182, 1, 74, 29, 172]
abbrev dktX1_store_1 : List UInt8 := dkwX1_store_1 ++ []
def dkwX1_store_0 : List UInt8 := [27, 184, 1, 38, 28, 3, 6, 184, 0, 104, 184, 0, 116, 42, 182, 1, 67, 42, 180, 0, 22, 180, 0, 73]
abbrev dktX1_store_0 : List UInt8 := dkwX1_store_0 ++ dktX1_store_1
theorem dksX1_store_0 : cX1_store.data.toList.drop 0 = dktX1_store_0 := by decide +kernel
theorem dksX1_store_1 : cX1_store.data.toList.drop 24 = dktX1_store_1 := dk_seg dksX1_store_0 24 rfl rfl
theorem dX1_store_0 : decode cX1_store 0 = .ok (.iload_n 1, 1) := dk_27 (dk_at dksX1_store_0 0 rfl rfl)
theorem dX1_store_1 : decode cX1_store 1 = .ok (.invokestatic 294, 3) := dk_184 1 38 (dk_at dksX1_store_0 1 rfl rfl)
theorem dX1_store_4 : decode cX1_store 4 = .ok (.iload_n 2, 1) := dk_28 (dk_at dksX1_store_0 4 rfl rfl)
theorem dX1_store_5 : decode cX1_store 5 = .ok (.iconst 0, 1) := dk_3 (dk_at dksX1_store_0 5 rfl rfl)
theorem dX1_store_6 : decode cX1_store 6 = .ok (.iconst 3, 1) := dk_6 (dk_at dksX1_store_0 6 rfl rfl)
theorem dX1_store_7 : decode cX1_store 7 = .ok (.invokestatic 104, 3) := dk_184 0 104 (dk_at dksX1_store_0 7 rfl rfl)
theorem dX1_store_10 : decode cX1_store 10 = .ok (.invokestatic 116, 3) := dk_184 0 116 (dk_at dksX1_store_0 10 rfl rfl)
theorem dX1_store_13 : decode cX1_store 13 = .ok (.aload_n 0, 1) := dk_42 (dk_at dksX1_store_0 13 rfl rfl)
theorem dX1_store_14 : decode cX1_store 14 = .ok (.invokevirtual 323, 3) := dk_182 1 67 (dk_at dksX1_store_0 14 rfl rfl)
theorem dX1_store_17 : decode cX1_store 17 = .ok (.aload_n 0, 1) := dk_42 (dk_at dksX1_store_0 17 rfl rfl)
theorem dX1_store_18 : decode cX1_store 18 = .ok (.getfield 22, 3) := dk_180 0 22 (dk_at dksX1_store_0 18 rfl rfl)
theorem dX1_store_21 : decode cX1_store 21 = .ok (.getfield 73, 3) := dk_180 0 73 (dk_at dksX1_store_0 21 rfl rfl)
theorem dX1_store_24 : decode cX1_store 24 = .ok (.iload_n 1, 1) := dk_27 (dk_at dksX1_store_1 0 rfl rfl)
theorem dX1_store_25 : decode cX1_store 25 = .ok (.iaload, 1) := dk_46 (dk_at dksX1_store_1 1 rfl rfl)
theorem dX1_store_26 : decode cX1_store 26 = .ok (.istore_n 3, 1) := dk_62 (dk_at dksX1_store_1 2 rfl rfl)
theorem dX1_store_27 : decode cX1_store 27 = .ok (.aload_n 0, 1) := dk_42 (dk_at dksX1_store_1 3 rfl rfl)
theorem dX1_store_28 : decode cX1_store 28 = .ok (.getfield 22, 3) := dk_180 0 22 (dk_at dksX1_store_1 4 rfl rfl)
theorem dX1_store_31 : decode cX1_store 31 = .ok (.getfield 73, 3) := dk_180 0 73 (dk_at dksX1_store_1 7 rfl rfl)
theorem dX1_store_34 : decode cX1_store 34 = .ok (.iload_n 1, 1) := dk_27 (dk_at dksX1_store_1 10 rfl rfl)
theorem dX1_store_35 : decode cX1_store 35 = .ok (.iload_n 2, 1) := dk_28 (dk_at dksX1_store_1 11 rfl rfl)
theorem dX1_store_36 : decode cX1_store 36 = .ok (.iastore, 1) := dk_79 (dk_at dksX1_store_1 12 rfl rfl)
theorem dX1_store_37 : decode cX1_store 37 = .ok (.aload_n 0, 1) := dk_42 (dk_at dksX1_store_1 13 rfl rfl)
theorem dX1_store_38 : decode cX1_store 38 = .ok (.invokevirtual 330, 3) := dk_182 1 74 (dk_at dksX1_store_1 14 rfl rfl)
theorem dX1_store_41 : decode cX1_store 41 = .ok (.iload_n 3, 1) := dk_29 (dk_at dksX1_store_1 17 rfl rfl)
theorem dX1_store_42 : decode cX1_store 42 = .ok (.ireturn, 1) := dk_172 (dk_at dksX1_store_1 18 rfl rfl)
abbrev cX1_vector : ByteArray := prog_1_method_45_code
def yX1_vector : MethodName := ⟨RX1, "vector", "(I)I"⟩
def dkwX1_vector_1 : List UInt8 := [180, 0, 22, 27, 181, 1, 82, 42, 182, 1, 74, 28, 172]
abbrev dktX1_vector_1 : List UInt8 := dkwX1_vector_1 ++ []
def dkwX1_vector_0 : List UInt8 := [27, 3, 16, 9, 184, 0, 104, 184, 0, 116, 42, 182, 1, 67, 42, 180, 0, 22, 180, 1, 82, 61, 42]
abbrev dktX1_vector_0 : List UInt8 := dkwX1_vector_0 ++ dktX1_vector_1
theorem dksX1_vector_0 : cX1_vector.data.toList.drop 0 = dktX1_vector_0 := by decide +kernel
theorem dksX1_vector_1 : cX1_vector.data.toList.drop 23 = dktX1_vector_1 := dk_seg dksX1_vector_0 23 rfl rfl
theorem dX1_vector_0 : decode cX1_vector 0 = .ok (.iload_n 1, 1) := dk_27 (dk_at dksX1_vector_0 0 rfl rfl)
theorem dX1_vector_1 : decode cX1_vector 1 = .ok (.iconst 0, 1) := dk_3 (dk_at dksX1_vector_0 1 rfl rfl)
theorem dX1_vector_2 : decode cX1_vector 2 = .ok (.bipush 9, 2) := dk_16 9 (dk_at dksX1_vector_0 2 rfl rfl)
theorem dX1_vector_4 : decode cX1_vector 4 = .ok (.invokestatic 104, 3) := dk_184 0 104 (dk_at dksX1_vector_0 4 rfl rfl)
theorem dX1_vector_7 : decode cX1_vector 7 = .ok (.invokestatic 116, 3) := dk_184 0 116 (dk_at dksX1_vector_0 7 rfl rfl)
theorem dX1_vector_10 : decode cX1_vector 10 = .ok (.aload_n 0, 1) := dk_42 (dk_at dksX1_vector_0 10 rfl rfl)
theorem dX1_vector_11 : decode cX1_vector 11 = .ok (.invokevirtual 323, 3) := dk_182 1 67 (dk_at dksX1_vector_0 11 rfl rfl)
theorem dX1_vector_14 : decode cX1_vector 14 = .ok (.aload_n 0, 1) := dk_42 (dk_at dksX1_vector_0 14 rfl rfl)
theorem dX1_vector_15 : decode cX1_vector 15 = .ok (.getfield 22, 3) := dk_180 0 22 (dk_at dksX1_vector_0 15 rfl rfl)
theorem dX1_vector_18 : decode cX1_vector 18 = .ok (.getfield 338, 3) := dk_180 1 82 (dk_at dksX1_vector_0 18 rfl rfl)
theorem dX1_vector_21 : decode cX1_vector 21 = .ok (.istore_n 2, 1) := dk_61 (dk_at dksX1_vector_0 21 rfl rfl)
theorem dX1_vector_22 : decode cX1_vector 22 = .ok (.aload_n 0, 1) := dk_42 (dk_at dksX1_vector_0 22 rfl rfl)
theorem dX1_vector_23 : decode cX1_vector 23 = .ok (.getfield 22, 3) := dk_180 0 22 (dk_at dksX1_vector_1 0 rfl rfl)
theorem dX1_vector_26 : decode cX1_vector 26 = .ok (.iload_n 1, 1) := dk_27 (dk_at dksX1_vector_1 3 rfl rfl)
theorem dX1_vector_27 : decode cX1_vector 27 = .ok (.putfield 338, 3) := dk_181 1 82 (dk_at dksX1_vector_1 4 rfl rfl)
theorem dX1_vector_30 : decode cX1_vector 30 = .ok (.aload_n 0, 1) := dk_42 (dk_at dksX1_vector_1 7 rfl rfl)
theorem dX1_vector_31 : decode cX1_vector 31 = .ok (.invokevirtual 330, 3) := dk_182 1 74 (dk_at dksX1_vector_1 8 rfl rfl)
theorem dX1_vector_34 : decode cX1_vector 34 = .ok (.iload_n 2, 1) := dk_28 (dk_at dksX1_vector_1 11 rfl rfl)
theorem dX1_vector_35 : decode cX1_vector 35 = .ok (.ireturn, 1) := dk_172 (dk_at dksX1_vector_1 12 rfl rfl)
abbrev cX1_shift : ByteArray := prog_1_method_46_code
def yX1_shift : MethodName := ⟨RX1, "shift", "(I)I"⟩
def dkwX1_shift_1 : List UInt8 := [180, 0, 22, 27, 181, 1, 85, 42, 182, 1, 74, 28, 172]
abbrev dktX1_shift_1 : List UInt8 := dkwX1_shift_1 ++ []
def dkwX1_shift_0 : List UInt8 := [27, 3, 6, 184, 0, 104, 184, 0, 116, 42, 182, 1, 67, 42, 180, 0, 22, 180, 1, 85, 61, 42]
abbrev dktX1_shift_0 : List UInt8 := dkwX1_shift_0 ++ dktX1_shift_1
theorem dksX1_shift_0 : cX1_shift.data.toList.drop 0 = dktX1_shift_0 := by decide +kernel
theorem dksX1_shift_1 : cX1_shift.data.toList.drop 22 = dktX1_shift_1 := dk_seg dksX1_shift_0 22 rfl rfl
theorem dX1_shift_0 : decode cX1_shift 0 = .ok (.iload_n 1, 1) := dk_27 (dk_at dksX1_shift_0 0 rfl rfl)
theorem dX1_shift_1 : decode cX1_shift 1 = .ok (.iconst 0, 1) := dk_3 (dk_at dksX1_shift_0 1 rfl rfl)
theorem dX1_shift_2 : decode cX1_shift 2 = .ok (.iconst 3, 1) := dk_6 (dk_at dksX1_shift_0 2 rfl rfl)
theorem dX1_shift_3 : decode cX1_shift 3 = .ok (.invokestatic 104, 3) := dk_184 0 104 (dk_at dksX1_shift_0 3 rfl rfl)
theorem dX1_shift_6 : decode cX1_shift 6 = .ok (.invokestatic 116, 3) := dk_184 0 116 (dk_at dksX1_shift_0 6 rfl rfl)
theorem dX1_shift_9 : decode cX1_shift 9 = .ok (.aload_n 0, 1) := dk_42 (dk_at dksX1_shift_0 9 rfl rfl)
theorem dX1_shift_10 : decode cX1_shift 10 = .ok (.invokevirtual 323, 3) := dk_182 1 67 (dk_at dksX1_shift_0 10 rfl rfl)
theorem dX1_shift_13 : decode cX1_shift 13 = .ok (.aload_n 0, 1) := dk_42 (dk_at dksX1_shift_0 13 rfl rfl)
theorem dX1_shift_14 : decode cX1_shift 14 = .ok (.getfield 22, 3) := dk_180 0 22 (dk_at dksX1_shift_0 14 rfl rfl)
theorem dX1_shift_17 : decode cX1_shift 17 = .ok (.getfield 341, 3) := dk_180 1 85 (dk_at dksX1_shift_0 17 rfl rfl)
theorem dX1_shift_20 : decode cX1_shift 20 = .ok (.istore_n 2, 1) := dk_61 (dk_at dksX1_shift_0 20 rfl rfl)
theorem dX1_shift_21 : decode cX1_shift 21 = .ok (.aload_n 0, 1) := dk_42 (dk_at dksX1_shift_0 21 rfl rfl)
theorem dX1_shift_22 : decode cX1_shift 22 = .ok (.getfield 22, 3) := dk_180 0 22 (dk_at dksX1_shift_1 0 rfl rfl)
theorem dX1_shift_25 : decode cX1_shift 25 = .ok (.iload_n 1, 1) := dk_27 (dk_at dksX1_shift_1 3 rfl rfl)
theorem dX1_shift_26 : decode cX1_shift 26 = .ok (.putfield 341, 3) := dk_181 1 85 (dk_at dksX1_shift_1 4 rfl rfl)
theorem dX1_shift_29 : decode cX1_shift 29 = .ok (.aload_n 0, 1) := dk_42 (dk_at dksX1_shift_1 7 rfl rfl)
theorem dX1_shift_30 : decode cX1_shift 30 = .ok (.invokevirtual 330, 3) := dk_182 1 74 (dk_at dksX1_shift_1 8 rfl rfl)
theorem dX1_shift_33 : decode cX1_shift 33 = .ok (.iload_n 2, 1) := dk_28 (dk_at dksX1_shift_1 11 rfl rfl)
theorem dX1_shift_34 : decode cX1_shift 34 = .ok (.ireturn, 1) := dk_172 (dk_at dksX1_shift_1 12 rfl rfl)
abbrev cX1_cost : ByteArray := prog_1_method_47_code
def yX1_cost : MethodName := ⟨RX1, "cost", "(I)I"⟩
def dkwX1_cost_1 : List UInt8 := [180, 0, 22, 27, 181, 1, 88, 42, 182, 1, 74, 28, 172]
abbrev dktX1_cost_1 : List UInt8 := dkwX1_cost_1 ++ []
def dkwX1_cost_0 : List UInt8 := [27, 3, 16, 7, 184, 0, 104, 184, 0, 116, 42, 182, 1, 67, 42, 180, 0, 22, 180, 1, 88, 61, 42]
abbrev dktX1_cost_0 : List UInt8 := dkwX1_cost_0 ++ dktX1_cost_1
theorem dksX1_cost_0 : cX1_cost.data.toList.drop 0 = dktX1_cost_0 := by decide +kernel
theorem dksX1_cost_1 : cX1_cost.data.toList.drop 23 = dktX1_cost_1 := dk_seg dksX1_cost_0 23 rfl rfl
theorem dX1_cost_0 : decode cX1_cost 0 = .ok (.iload_n 1, 1) := dk_27 (dk_at dksX1_cost_0 0 rfl rfl)
theorem dX1_cost_1 : decode cX1_cost 1 = .ok (.iconst 0, 1) := dk_3 (dk_at dksX1_cost_0 1 rfl rfl)
theorem dX1_cost_2 : decode cX1_cost 2 = .ok (.bipush 7, 2) := dk_16 7 (dk_at dksX1_cost_0 2 rfl rfl)
theorem dX1_cost_4 : decode cX1_cost 4 = .ok (.invokestatic 104, 3) := dk_184 0 104 (dk_at dksX1_cost_0 4 rfl rfl)
theorem dX1_cost_7 : decode cX1_cost 7 = .ok (.invokestatic 116, 3) := dk_184 0 116 (dk_at dksX1_cost_0 7 rfl rfl)
theorem dX1_cost_10 : decode cX1_cost 10 = .ok (.aload_n 0, 1) := dk_42 (dk_at dksX1_cost_0 10 rfl rfl)
theorem dX1_cost_11 : decode cX1_cost 11 = .ok (.invokevirtual 323, 3) := dk_182 1 67 (dk_at dksX1_cost_0 11 rfl rfl)
theorem dX1_cost_14 : decode cX1_cost 14 = .ok (.aload_n 0, 1) := dk_42 (dk_at dksX1_cost_0 14 rfl rfl)
theorem dX1_cost_15 : decode cX1_cost 15 = .ok (.getfield 22, 3) := dk_180 0 22 (dk_at dksX1_cost_0 15 rfl rfl)
theorem dX1_cost_18 : decode cX1_cost 18 = .ok (.getfield 344, 3) := dk_180 1 88 (dk_at dksX1_cost_0 18 rfl rfl)
theorem dX1_cost_21 : decode cX1_cost 21 = .ok (.istore_n 2, 1) := dk_61 (dk_at dksX1_cost_0 21 rfl rfl)
theorem dX1_cost_22 : decode cX1_cost 22 = .ok (.aload_n 0, 1) := dk_42 (dk_at dksX1_cost_0 22 rfl rfl)
theorem dX1_cost_23 : decode cX1_cost 23 = .ok (.getfield 22, 3) := dk_180 0 22 (dk_at dksX1_cost_1 0 rfl rfl)
theorem dX1_cost_26 : decode cX1_cost 26 = .ok (.iload_n 1, 1) := dk_27 (dk_at dksX1_cost_1 3 rfl rfl)
theorem dX1_cost_27 : decode cX1_cost 27 = .ok (.putfield 344, 3) := dk_181 1 88 (dk_at dksX1_cost_1 4 rfl rfl)
theorem dX1_cost_30 : decode cX1_cost 30 = .ok (.aload_n 0, 1) := dk_42 (dk_at dksX1_cost_1 7 rfl rfl)
theorem dX1_cost_31 : decode cX1_cost 31 = .ok (.invokevirtual 330, 3) := dk_182 1 74 (dk_at dksX1_cost_1 8 rfl rfl)
theorem dX1_cost_34 : decode cX1_cost 34 = .ok (.iload_n 2, 1) := dk_28 (dk_at dksX1_cost_1 11 rfl rfl)
theorem dX1_cost_35 : decode cX1_cost 35 = .ok (.ireturn, 1) := dk_172 (dk_at dksX1_cost_1 12 rfl rfl)
abbrev cX1_alarm : ByteArray := prog_1_method_48_code
def yX1_alarm : MethodName := ⟨RX1, "alarm", "(I)I"⟩
def dkwX1_alarm_1 : List UInt8 := [180, 0, 22, 27, 181, 1, 91, 42, 182, 1, 74, 28, 172]
abbrev dktX1_alarm_1 : List UInt8 := dkwX1_alarm_1 ++ []
def dkwX1_alarm_0 : List UInt8 := [27, 3, 16, 100, 184, 0, 104, 184, 0, 116, 42, 182, 1, 67, 42, 180, 0, 22, 180, 1, 91, 61, 42]
abbrev dktX1_alarm_0 : List UInt8 := dkwX1_alarm_0 ++ dktX1_alarm_1
theorem dksX1_alarm_0 : cX1_alarm.data.toList.drop 0 = dktX1_alarm_0 := by decide +kernel
theorem dksX1_alarm_1 : cX1_alarm.data.toList.drop 23 = dktX1_alarm_1 := dk_seg dksX1_alarm_0 23 rfl rfl
theorem dX1_alarm_0 : decode cX1_alarm 0 = .ok (.iload_n 1, 1) := dk_27 (dk_at dksX1_alarm_0 0 rfl rfl)
theorem dX1_alarm_1 : decode cX1_alarm 1 = .ok (.iconst 0, 1) := dk_3 (dk_at dksX1_alarm_0 1 rfl rfl)
theorem dX1_alarm_2 : decode cX1_alarm 2 = .ok (.bipush 100, 2) := dk_16 100 (dk_at dksX1_alarm_0 2 rfl rfl)
theorem dX1_alarm_4 : decode cX1_alarm 4 = .ok (.invokestatic 104, 3) := dk_184 0 104 (dk_at dksX1_alarm_0 4 rfl rfl)
theorem dX1_alarm_7 : decode cX1_alarm 7 = .ok (.invokestatic 116, 3) := dk_184 0 116 (dk_at dksX1_alarm_0 7 rfl rfl)
theorem dX1_alarm_10 : decode cX1_alarm 10 = .ok (.aload_n 0, 1) := dk_42 (dk_at dksX1_alarm_0 10 rfl rfl)
theorem dX1_alarm_11 : decode cX1_alarm 11 = .ok (.invokevirtual 323, 3) := dk_182 1 67 (dk_at dksX1_alarm_0 11 rfl rfl)
theorem dX1_alarm_14 : decode cX1_alarm 14 = .ok (.aload_n 0, 1) := dk_42 (dk_at dksX1_alarm_0 14 rfl rfl)
theorem dX1_alarm_15 : decode cX1_alarm 15 = .ok (.getfield 22, 3) := dk_180 0 22 (dk_at dksX1_alarm_0 15 rfl rfl)
theorem dX1_alarm_18 : decode cX1_alarm 18 = .ok (.getfield 347, 3) := dk_180 1 91 (dk_at dksX1_alarm_0 18 rfl rfl)
theorem dX1_alarm_21 : decode cX1_alarm 21 = .ok (.istore_n 2, 1) := dk_61 (dk_at dksX1_alarm_0 21 rfl rfl)
theorem dX1_alarm_22 : decode cX1_alarm 22 = .ok (.aload_n 0, 1) := dk_42 (dk_at dksX1_alarm_0 22 rfl rfl)
theorem dX1_alarm_23 : decode cX1_alarm 23 = .ok (.getfield 22, 3) := dk_180 0 22 (dk_at dksX1_alarm_1 0 rfl rfl)
theorem dX1_alarm_26 : decode cX1_alarm 26 = .ok (.iload_n 1, 1) := dk_27 (dk_at dksX1_alarm_1 3 rfl rfl)
theorem dX1_alarm_27 : decode cX1_alarm 27 = .ok (.putfield 347, 3) := dk_181 1 91 (dk_at dksX1_alarm_1 4 rfl rfl)
theorem dX1_alarm_30 : decode cX1_alarm 30 = .ok (.aload_n 0, 1) := dk_42 (dk_at dksX1_alarm_1 7 rfl rfl)
theorem dX1_alarm_31 : decode cX1_alarm 31 = .ok (.invokevirtual 330, 3) := dk_182 1 74 (dk_at dksX1_alarm_1 8 rfl rfl)
theorem dX1_alarm_34 : decode cX1_alarm 34 = .ok (.iload_n 2, 1) := dk_28 (dk_at dksX1_alarm_1 11 rfl rfl)
theorem dX1_alarm_35 : decode cX1_alarm 35 = .ok (.ireturn, 1) := dk_172 (dk_at dksX1_alarm_1 12 rfl rfl)
abbrev cX1_traps : ByteArray := prog_1_method_55_code
def yX1_traps : MethodName := ⟨RX1, "traps", "(I)I"⟩
def dkwX1_traps_0 : List UInt8 := [27, 184, 1, 115, 42, 27, 3, 2, 182, 1, 118, 172]
abbrev dktX1_traps_0 : List UInt8 := dkwX1_traps_0 ++ []
theorem dksX1_traps_0 : cX1_traps.data.toList.drop 0 = dktX1_traps_0 := by decide +kernel
theorem dX1_traps_0 : decode cX1_traps 0 = .ok (.iload_n 1, 1) := dk_27 (dk_at dksX1_traps_0 0 rfl rfl)
theorem dX1_traps_1 : decode cX1_traps 1 = .ok (.invokestatic 371, 3) := dk_184 1 115 (dk_at dksX1_traps_0 1 rfl rfl)
theorem dX1_traps_4 : decode cX1_traps 4 = .ok (.aload_n 0, 1) := dk_42 (dk_at dksX1_traps_0 4 rfl rfl)
theorem dX1_traps_5 : decode cX1_traps 5 = .ok (.iload_n 1, 1) := dk_27 (dk_at dksX1_traps_0 5 rfl rfl)
theorem dX1_traps_6 : decode cX1_traps 6 = .ok (.iconst 0, 1) := dk_3 (dk_at dksX1_traps_0 6 rfl rfl)
theorem dX1_traps_7 : decode cX1_traps 7 = .ok (.iconst (-1), 1) := dk_2 (dk_at dksX1_traps_0 7 rfl rfl)
theorem dX1_traps_8 : decode cX1_traps 8 = .ok (.invokevirtual 374, 3) := dk_182 1 118 (dk_at dksX1_traps_0 8 rfl rfl)
theorem dX1_traps_11 : decode cX1_traps 11 = .ok (.ireturn, 1) := dk_172 (dk_at dksX1_traps_0 11 rfl rfl)
abbrev cX1_areSteps : ByteArray := prog_1_method_12_code
def yX1_areSteps : MethodName := ⟨RX1, "areSteps", "(I)V"⟩
def dkwX1_areSteps_0 : List UInt8 := [26, 3, 16, 60, 184, 0, 104, 184, 0, 116, 177]
abbrev dktX1_areSteps_0 : List UInt8 := dkwX1_areSteps_0 ++ []
theorem dksX1_areSteps_0 : cX1_areSteps.data.toList.drop 0 = dktX1_areSteps_0 := by decide +kernel
theorem dX1_areSteps_0 : decode cX1_areSteps 0 = .ok (.iload_n 0, 1) := dk_26 (dk_at dksX1_areSteps_0 0 rfl rfl)
theorem dX1_areSteps_1 : decode cX1_areSteps 1 = .ok (.iconst 0, 1) := dk_3 (dk_at dksX1_areSteps_0 1 rfl rfl)
theorem dX1_areSteps_2 : decode cX1_areSteps 2 = .ok (.bipush 60, 2) := dk_16 60 (dk_at dksX1_areSteps_0 2 rfl rfl)
theorem dX1_areSteps_4 : decode cX1_areSteps 4 = .ok (.invokestatic 104, 3) := dk_184 0 104 (dk_at dksX1_areSteps_0 4 rfl rfl)
theorem dX1_areSteps_7 : decode cX1_areSteps 7 = .ok (.invokestatic 116, 3) := dk_184 0 116 (dk_at dksX1_areSteps_0 7 rfl rfl)
theorem dX1_areSteps_10 : decode cX1_areSteps 10 = .ok (.return_, 1) := dk_177 (dk_at dksX1_areSteps_0 10 rfl rfl)
abbrev cX1_steps : ByteArray := prog_1_method_54_code
def yX1_steps : MethodName := ⟨RX1, "steps", "(III)I"⟩
def dkwX1_steps_5 : List UInt8 := [21, 4, 172]
abbrev dktX1_steps_5 : List UInt8 := dkwX1_steps_5 ++ []
def dkwX1_steps_4 : List UInt8 := [4, 167, 0, 14, 29, 42, 180, 0, 22, 21, 6, 182, 1, 4, 104, 96, 54, 4, 132, 5, 1, 167, 255, 160]
abbrev dktX1_steps_4 : List UInt8 := dkwX1_steps_4 ++ dktX1_steps_5
def dkwX1_steps_3 : List UInt8 := [5, 188, 10, 89, 3, 3, 79, 89, 4, 4, 79, 184, 1, 111, 153, 0, 28, 21, 4, 29, 2, 160, 0, 7]
abbrev dktX1_steps_3 : List UInt8 := dkwX1_steps_3 ++ dktX1_steps_4
def dkwX1_steps_2 : List UInt8 := [182, 1, 105, 54, 7, 21, 4, 21, 7, 16, 6, 160, 0, 7, 3, 167, 0, 4, 28, 96, 54, 4, 21, 7]
abbrev dktX1_steps_2 : List UInt8 := dkwX1_steps_2 ++ dktX1_steps_3
def dkwX1_steps_1 : List UInt8 := [162, 0, 96, 42, 180, 0, 22, 42, 180, 0, 49, 182, 1, 47, 54, 6, 42, 180, 0, 22, 42, 180, 0, 49]
abbrev dktX1_steps_1 : List UInt8 := dkwX1_steps_1 ++ dktX1_steps_2
def dkwX1_steps_0 : List UInt8 := [42, 180, 0, 22, 42, 180, 0, 45, 42, 180, 0, 49, 182, 0, 82, 3, 54, 4, 3, 54, 5, 21, 5, 27]
abbrev dktX1_steps_0 : List UInt8 := dkwX1_steps_0 ++ dktX1_steps_1
theorem dksX1_steps_0 : cX1_steps.data.toList.drop 0 = dktX1_steps_0 := by decide +kernel
theorem dksX1_steps_1 : cX1_steps.data.toList.drop 24 = dktX1_steps_1 := dk_seg dksX1_steps_0 24 rfl rfl
theorem dksX1_steps_2 : cX1_steps.data.toList.drop 48 = dktX1_steps_2 := dk_seg dksX1_steps_1 24 rfl rfl
theorem dksX1_steps_3 : cX1_steps.data.toList.drop 72 = dktX1_steps_3 := dk_seg dksX1_steps_2 24 rfl rfl
theorem dksX1_steps_4 : cX1_steps.data.toList.drop 96 = dktX1_steps_4 := dk_seg dksX1_steps_3 24 rfl rfl
theorem dksX1_steps_5 : cX1_steps.data.toList.drop 120 = dktX1_steps_5 := dk_seg dksX1_steps_4 24 rfl rfl
theorem dX1_steps_0 : decode cX1_steps 0 = .ok (.aload_n 0, 1) := dk_42 (dk_at dksX1_steps_0 0 rfl rfl)
theorem dX1_steps_1 : decode cX1_steps 1 = .ok (.getfield 22, 3) := dk_180 0 22 (dk_at dksX1_steps_0 1 rfl rfl)
theorem dX1_steps_4 : decode cX1_steps 4 = .ok (.aload_n 0, 1) := dk_42 (dk_at dksX1_steps_0 4 rfl rfl)
theorem dX1_steps_5 : decode cX1_steps 5 = .ok (.getfield 45, 3) := dk_180 0 45 (dk_at dksX1_steps_0 5 rfl rfl)
theorem dX1_steps_8 : decode cX1_steps 8 = .ok (.aload_n 0, 1) := dk_42 (dk_at dksX1_steps_0 8 rfl rfl)
theorem dX1_steps_9 : decode cX1_steps 9 = .ok (.getfield 49, 3) := dk_180 0 49 (dk_at dksX1_steps_0 9 rfl rfl)
theorem dX1_steps_12 : decode cX1_steps 12 = .ok (.invokevirtual 82, 3) := dk_182 0 82 (dk_at dksX1_steps_0 12 rfl rfl)
theorem dX1_steps_15 : decode cX1_steps 15 = .ok (.iconst 0, 1) := dk_3 (dk_at dksX1_steps_0 15 rfl rfl)
theorem dX1_steps_16 : decode cX1_steps 16 = .ok (.istore 4, 2) := dk_54 4 (dk_at dksX1_steps_0 16 rfl rfl)
theorem dX1_steps_18 : decode cX1_steps 18 = .ok (.iconst 0, 1) := dk_3 (dk_at dksX1_steps_0 18 rfl rfl)
theorem dX1_steps_19 : decode cX1_steps 19 = .ok (.istore 5, 2) := dk_54 5 (dk_at dksX1_steps_0 19 rfl rfl)
theorem dX1_steps_21 : decode cX1_steps 21 = .ok (.iload 5, 2) := dk_21 5 (dk_at dksX1_steps_0 21 rfl rfl)
theorem dX1_steps_23 : decode cX1_steps 23 = .ok (.iload_n 1, 1) := dk_27 (dk_at dksX1_steps_0 23 rfl rfl)
theorem dX1_steps_24 : decode cX1_steps 24 = .ok (.if_icmp .ge 96, 3) := dk_162 0 96 (dk_at dksX1_steps_1 0 rfl rfl)
theorem dX1_steps_27 : decode cX1_steps 27 = .ok (.aload_n 0, 1) := dk_42 (dk_at dksX1_steps_1 3 rfl rfl)
theorem dX1_steps_28 : decode cX1_steps 28 = .ok (.getfield 22, 3) := dk_180 0 22 (dk_at dksX1_steps_1 4 rfl rfl)
theorem dX1_steps_31 : decode cX1_steps 31 = .ok (.aload_n 0, 1) := dk_42 (dk_at dksX1_steps_1 7 rfl rfl)
theorem dX1_steps_32 : decode cX1_steps 32 = .ok (.getfield 49, 3) := dk_180 0 49 (dk_at dksX1_steps_1 8 rfl rfl)
theorem dX1_steps_35 : decode cX1_steps 35 = .ok (.invokevirtual 303, 3) := dk_182 1 47 (dk_at dksX1_steps_1 11 rfl rfl)
theorem dX1_steps_38 : decode cX1_steps 38 = .ok (.istore 6, 2) := dk_54 6 (dk_at dksX1_steps_1 14 rfl rfl)
theorem dX1_steps_40 : decode cX1_steps 40 = .ok (.aload_n 0, 1) := dk_42 (dk_at dksX1_steps_1 16 rfl rfl)
theorem dX1_steps_41 : decode cX1_steps 41 = .ok (.getfield 22, 3) := dk_180 0 22 (dk_at dksX1_steps_1 17 rfl rfl)
theorem dX1_steps_44 : decode cX1_steps 44 = .ok (.aload_n 0, 1) := dk_42 (dk_at dksX1_steps_1 20 rfl rfl)
theorem dX1_steps_45 : decode cX1_steps 45 = .ok (.getfield 49, 3) := dk_180 0 49 (dk_at dksX1_steps_1 21 rfl rfl)
theorem dX1_steps_48 : decode cX1_steps 48 = .ok (.invokevirtual 361, 3) := dk_182 1 105 (dk_at dksX1_steps_2 0 rfl rfl)
theorem dX1_steps_51 : decode cX1_steps 51 = .ok (.istore 7, 2) := dk_54 7 (dk_at dksX1_steps_2 3 rfl rfl)
theorem dX1_steps_53 : decode cX1_steps 53 = .ok (.iload 4, 2) := dk_21 4 (dk_at dksX1_steps_2 5 rfl rfl)
theorem dX1_steps_55 : decode cX1_steps 55 = .ok (.iload 7, 2) := dk_21 7 (dk_at dksX1_steps_2 7 rfl rfl)
theorem dX1_steps_57 : decode cX1_steps 57 = .ok (.bipush 6, 2) := dk_16 6 (dk_at dksX1_steps_2 9 rfl rfl)
theorem dX1_steps_59 : decode cX1_steps 59 = .ok (.if_icmp .ne 7, 3) := dk_160 0 7 (dk_at dksX1_steps_2 11 rfl rfl)
theorem dX1_steps_62 : decode cX1_steps 62 = .ok (.iconst 0, 1) := dk_3 (dk_at dksX1_steps_2 14 rfl rfl)
theorem dX1_steps_63 : decode cX1_steps 63 = .ok (.goto 4, 3) := dk_167 0 4 (dk_at dksX1_steps_2 15 rfl rfl)
theorem dX1_steps_66 : decode cX1_steps 66 = .ok (.iload_n 2, 1) := dk_28 (dk_at dksX1_steps_2 18 rfl rfl)
theorem dX1_steps_67 : decode cX1_steps 67 = .ok (.iadd, 1) := dk_96 (dk_at dksX1_steps_2 19 rfl rfl)
theorem dX1_steps_68 : decode cX1_steps 68 = .ok (.istore 4, 2) := dk_54 4 (dk_at dksX1_steps_2 20 rfl rfl)
theorem dX1_steps_70 : decode cX1_steps 70 = .ok (.iload 7, 2) := dk_21 7 (dk_at dksX1_steps_2 22 rfl rfl)
theorem dX1_steps_72 : decode cX1_steps 72 = .ok (.iconst 2, 1) := dk_5 (dk_at dksX1_steps_3 0 rfl rfl)
theorem dX1_steps_73 : decode cX1_steps 73 = .ok (.newarray .int, 2) := dk_188_10 (dk_at dksX1_steps_3 1 rfl rfl)
theorem dX1_steps_75 : decode cX1_steps 75 = .ok (.dup, 1) := dk_89 (dk_at dksX1_steps_3 3 rfl rfl)
theorem dX1_steps_76 : decode cX1_steps 76 = .ok (.iconst 0, 1) := dk_3 (dk_at dksX1_steps_3 4 rfl rfl)
theorem dX1_steps_77 : decode cX1_steps 77 = .ok (.iconst 0, 1) := dk_3 (dk_at dksX1_steps_3 5 rfl rfl)
theorem dX1_steps_78 : decode cX1_steps 78 = .ok (.iastore, 1) := dk_79 (dk_at dksX1_steps_3 6 rfl rfl)
theorem dX1_steps_79 : decode cX1_steps 79 = .ok (.dup, 1) := dk_89 (dk_at dksX1_steps_3 7 rfl rfl)
theorem dX1_steps_80 : decode cX1_steps 80 = .ok (.iconst 1, 1) := dk_4 (dk_at dksX1_steps_3 8 rfl rfl)
theorem dX1_steps_81 : decode cX1_steps 81 = .ok (.iconst 1, 1) := dk_4 (dk_at dksX1_steps_3 9 rfl rfl)
theorem dX1_steps_82 : decode cX1_steps 82 = .ok (.iastore, 1) := dk_79 (dk_at dksX1_steps_3 10 rfl rfl)
theorem dX1_steps_83 : decode cX1_steps 83 = .ok (.invokestatic 367, 3) := dk_184 1 111 (dk_at dksX1_steps_3 11 rfl rfl)
theorem dX1_steps_86 : decode cX1_steps 86 = .ok (.ifCond .eq 28, 3) := dk_153 0 28 (dk_at dksX1_steps_3 14 rfl rfl)
theorem dX1_steps_89 : decode cX1_steps 89 = .ok (.iload 4, 2) := dk_21 4 (dk_at dksX1_steps_3 17 rfl rfl)
theorem dX1_steps_91 : decode cX1_steps 91 = .ok (.iload_n 3, 1) := dk_29 (dk_at dksX1_steps_3 19 rfl rfl)
theorem dX1_steps_92 : decode cX1_steps 92 = .ok (.iconst (-1), 1) := dk_2 (dk_at dksX1_steps_3 20 rfl rfl)
theorem dX1_steps_93 : decode cX1_steps 93 = .ok (.if_icmp .ne 7, 3) := dk_160 0 7 (dk_at dksX1_steps_3 21 rfl rfl)
theorem dX1_steps_96 : decode cX1_steps 96 = .ok (.iconst 1, 1) := dk_4 (dk_at dksX1_steps_4 0 rfl rfl)
theorem dX1_steps_97 : decode cX1_steps 97 = .ok (.goto 14, 3) := dk_167 0 14 (dk_at dksX1_steps_4 1 rfl rfl)
theorem dX1_steps_100 : decode cX1_steps 100 = .ok (.iload_n 3, 1) := dk_29 (dk_at dksX1_steps_4 4 rfl rfl)
theorem dX1_steps_101 : decode cX1_steps 101 = .ok (.aload_n 0, 1) := dk_42 (dk_at dksX1_steps_4 5 rfl rfl)
theorem dX1_steps_102 : decode cX1_steps 102 = .ok (.getfield 22, 3) := dk_180 0 22 (dk_at dksX1_steps_4 6 rfl rfl)
theorem dX1_steps_105 : decode cX1_steps 105 = .ok (.iload 6, 2) := dk_21 6 (dk_at dksX1_steps_4 9 rfl rfl)
theorem dX1_steps_107 : decode cX1_steps 107 = .ok (.invokevirtual 260, 3) := dk_182 1 4 (dk_at dksX1_steps_4 11 rfl rfl)
theorem dX1_steps_110 : decode cX1_steps 110 = .ok (.imul, 1) := dk_104 (dk_at dksX1_steps_4 14 rfl rfl)
theorem dX1_steps_111 : decode cX1_steps 111 = .ok (.iadd, 1) := dk_96 (dk_at dksX1_steps_4 15 rfl rfl)
theorem dX1_steps_112 : decode cX1_steps 112 = .ok (.istore 4, 2) := dk_54 4 (dk_at dksX1_steps_4 16 rfl rfl)
theorem dX1_steps_114 : decode cX1_steps 114 = .ok (.iinc 5 1, 3) := dk_132 5 1 (dk_at dksX1_steps_4 18 rfl rfl)
theorem dX1_steps_117 : decode cX1_steps 117 = .ok (.goto (-96), 3) := dk_167 255 160 (dk_at dksX1_steps_4 21 rfl rfl)
theorem dX1_steps_120 : decode cX1_steps 120 = .ok (.iload 4, 2) := dk_21 4 (dk_at dksX1_steps_5 0 rfl rfl)
theorem dX1_steps_122 : decode cX1_steps 122 = .ok (.ireturn, 1) := dk_172 (dk_at dksX1_steps_5 2 rfl rfl)
abbrev cX1_depth : ByteArray := prog_1_method_56_code
def yX1_depth : MethodName := ⟨RX1, "depth", "(II)I"⟩
def dkwX1_depth_1 : List UInt8 := [184, 0, 116, 42, 27, 4, 28, 182, 1, 118, 172]
abbrev dktX1_depth_1 : List UInt8 := dkwX1_depth_1 ++ []
def dkwX1_depth_0 : List UInt8 := [27, 3, 16, 60, 184, 0, 104, 153, 0, 16, 28, 3, 8, 184, 0, 104, 153, 0, 7, 4, 167, 0, 4, 3]
abbrev dktX1_depth_0 : List UInt8 := dkwX1_depth_0 ++ dktX1_depth_1
theorem dksX1_depth_0 : cX1_depth.data.toList.drop 0 = dktX1_depth_0 := by decide +kernel
theorem dksX1_depth_1 : cX1_depth.data.toList.drop 24 = dktX1_depth_1 := dk_seg dksX1_depth_0 24 rfl rfl
theorem dX1_depth_0 : decode cX1_depth 0 = .ok (.iload_n 1, 1) := dk_27 (dk_at dksX1_depth_0 0 rfl rfl)
theorem dX1_depth_1 : decode cX1_depth 1 = .ok (.iconst 0, 1) := dk_3 (dk_at dksX1_depth_0 1 rfl rfl)
theorem dX1_depth_2 : decode cX1_depth 2 = .ok (.bipush 60, 2) := dk_16 60 (dk_at dksX1_depth_0 2 rfl rfl)
theorem dX1_depth_4 : decode cX1_depth 4 = .ok (.invokestatic 104, 3) := dk_184 0 104 (dk_at dksX1_depth_0 4 rfl rfl)
theorem dX1_depth_7 : decode cX1_depth 7 = .ok (.ifCond .eq 16, 3) := dk_153 0 16 (dk_at dksX1_depth_0 7 rfl rfl)
theorem dX1_depth_10 : decode cX1_depth 10 = .ok (.iload_n 2, 1) := dk_28 (dk_at dksX1_depth_0 10 rfl rfl)
theorem dX1_depth_11 : decode cX1_depth 11 = .ok (.iconst 0, 1) := dk_3 (dk_at dksX1_depth_0 11 rfl rfl)
theorem dX1_depth_12 : decode cX1_depth 12 = .ok (.iconst 5, 1) := dk_8 (dk_at dksX1_depth_0 12 rfl rfl)
theorem dX1_depth_13 : decode cX1_depth 13 = .ok (.invokestatic 104, 3) := dk_184 0 104 (dk_at dksX1_depth_0 13 rfl rfl)
theorem dX1_depth_16 : decode cX1_depth 16 = .ok (.ifCond .eq 7, 3) := dk_153 0 7 (dk_at dksX1_depth_0 16 rfl rfl)
theorem dX1_depth_19 : decode cX1_depth 19 = .ok (.iconst 1, 1) := dk_4 (dk_at dksX1_depth_0 19 rfl rfl)
theorem dX1_depth_20 : decode cX1_depth 20 = .ok (.goto 4, 3) := dk_167 0 4 (dk_at dksX1_depth_0 20 rfl rfl)
theorem dX1_depth_23 : decode cX1_depth 23 = .ok (.iconst 0, 1) := dk_3 (dk_at dksX1_depth_0 23 rfl rfl)
theorem dX1_depth_24 : decode cX1_depth 24 = .ok (.invokestatic 116, 3) := dk_184 0 116 (dk_at dksX1_depth_1 0 rfl rfl)
theorem dX1_depth_27 : decode cX1_depth 27 = .ok (.aload_n 0, 1) := dk_42 (dk_at dksX1_depth_1 3 rfl rfl)
theorem dX1_depth_28 : decode cX1_depth 28 = .ok (.iload_n 1, 1) := dk_27 (dk_at dksX1_depth_1 4 rfl rfl)
theorem dX1_depth_29 : decode cX1_depth 29 = .ok (.iconst 1, 1) := dk_4 (dk_at dksX1_depth_1 5 rfl rfl)
theorem dX1_depth_30 : decode cX1_depth 30 = .ok (.iload_n 2, 1) := dk_28 (dk_at dksX1_depth_1 6 rfl rfl)
theorem dX1_depth_31 : decode cX1_depth 31 = .ok (.invokevirtual 374, 3) := dk_182 1 118 (dk_at dksX1_depth_1 7 rfl rfl)
theorem dX1_depth_34 : decode cX1_depth 34 = .ok (.ireturn, 1) := dk_172 (dk_at dksX1_depth_1 10 rfl rfl)
abbrev cX1_clash : ByteArray := prog_1_method_61_code
def yX1_clash : MethodName := ⟨RX1, "clash", "(II)Z"⟩
def dkwX1_clash_1 : List UInt8 := [184, 0, 116, 42, 27, 28, 182, 1, 129, 172]
abbrev dktX1_clash_1 : List UInt8 := dkwX1_clash_1 ++ []
def dkwX1_clash_0 : List UInt8 := [42, 27, 182, 0, 240, 87, 42, 28, 182, 0, 240, 87, 27, 28, 159, 0, 7, 4, 167, 0, 4, 3]
abbrev dktX1_clash_0 : List UInt8 := dkwX1_clash_0 ++ dktX1_clash_1
theorem dksX1_clash_0 : cX1_clash.data.toList.drop 0 = dktX1_clash_0 := by decide +kernel
theorem dksX1_clash_1 : cX1_clash.data.toList.drop 22 = dktX1_clash_1 := dk_seg dksX1_clash_0 22 rfl rfl
theorem dX1_clash_0 : decode cX1_clash 0 = .ok (.aload_n 0, 1) := dk_42 (dk_at dksX1_clash_0 0 rfl rfl)
theorem dX1_clash_1 : decode cX1_clash 1 = .ok (.iload_n 1, 1) := dk_27 (dk_at dksX1_clash_0 1 rfl rfl)
theorem dX1_clash_2 : decode cX1_clash 2 = .ok (.invokevirtual 240, 3) := dk_182 0 240 (dk_at dksX1_clash_0 2 rfl rfl)
theorem dX1_clash_5 : decode cX1_clash 5 = .ok (.pop, 1) := dk_87 (dk_at dksX1_clash_0 5 rfl rfl)
theorem dX1_clash_6 : decode cX1_clash 6 = .ok (.aload_n 0, 1) := dk_42 (dk_at dksX1_clash_0 6 rfl rfl)
theorem dX1_clash_7 : decode cX1_clash 7 = .ok (.iload_n 2, 1) := dk_28 (dk_at dksX1_clash_0 7 rfl rfl)
theorem dX1_clash_8 : decode cX1_clash 8 = .ok (.invokevirtual 240, 3) := dk_182 0 240 (dk_at dksX1_clash_0 8 rfl rfl)
theorem dX1_clash_11 : decode cX1_clash 11 = .ok (.pop, 1) := dk_87 (dk_at dksX1_clash_0 11 rfl rfl)
theorem dX1_clash_12 : decode cX1_clash 12 = .ok (.iload_n 1, 1) := dk_27 (dk_at dksX1_clash_0 12 rfl rfl)
theorem dX1_clash_13 : decode cX1_clash 13 = .ok (.iload_n 2, 1) := dk_28 (dk_at dksX1_clash_0 13 rfl rfl)
theorem dX1_clash_14 : decode cX1_clash 14 = .ok (.if_icmp .eq 7, 3) := dk_159 0 7 (dk_at dksX1_clash_0 14 rfl rfl)
theorem dX1_clash_17 : decode cX1_clash 17 = .ok (.iconst 1, 1) := dk_4 (dk_at dksX1_clash_0 17 rfl rfl)
theorem dX1_clash_18 : decode cX1_clash 18 = .ok (.goto 4, 3) := dk_167 0 4 (dk_at dksX1_clash_0 18 rfl rfl)
theorem dX1_clash_21 : decode cX1_clash 21 = .ok (.iconst 0, 1) := dk_3 (dk_at dksX1_clash_0 21 rfl rfl)
theorem dX1_clash_22 : decode cX1_clash 22 = .ok (.invokestatic 116, 3) := dk_184 0 116 (dk_at dksX1_clash_1 0 rfl rfl)
theorem dX1_clash_25 : decode cX1_clash 25 = .ok (.aload_n 0, 1) := dk_42 (dk_at dksX1_clash_1 3 rfl rfl)
theorem dX1_clash_26 : decode cX1_clash 26 = .ok (.iload_n 1, 1) := dk_27 (dk_at dksX1_clash_1 4 rfl rfl)
theorem dX1_clash_27 : decode cX1_clash 27 = .ok (.iload_n 2, 1) := dk_28 (dk_at dksX1_clash_1 5 rfl rfl)
theorem dX1_clash_28 : decode cX1_clash 28 = .ok (.invokevirtual 385, 3) := dk_182 1 129 (dk_at dksX1_clash_1 6 rfl rfl)
theorem dX1_clash_31 : decode cX1_clash 31 = .ok (.ireturn, 1) := dk_172 (dk_at dksX1_clash_1 9 rfl rfl)
abbrev cX1_which : ByteArray := prog_1_method_66_code
def yX1_which : MethodName := ⟨RX1, "which", "()I"⟩
theorem dX1_which_0 : decode cX1_which 0 = .ok (.aload_n 0, 1) := by decide +kernel
theorem dX1_which_1 : decode cX1_which 1 = .ok (.invokevirtual 396, 3) := by decide +kernel
theorem dX1_which_4 : decode cX1_which 4 = .ok (.ireturn, 1) := by decide +kernel
abbrev cX1_hears : ByteArray := prog_1_method_65_code
def yX1_hears : MethodName := ⟨RX1, "hears", "()I"⟩
def dkwX1_hears_8 : List UInt8 := [128, 54, 4, 132, 5, 1, 167, 255, 160, 21, 4, 172]
abbrev dktX1_hears_8 : List UInt8 := dkwX1_hears_8 ++ []
def dkwX1_hears_7 : List UInt8 := [167, 255, 213, 21, 4, 42, 180, 0, 52, 21, 5, 46, 4, 163, 0, 10, 4, 21, 5, 120, 167, 0, 4, 3]
abbrev dktX1_hears_7 : List UInt8 := dkwX1_hears_7 ++ dktX1_hears_8
def dkwX1_hears_6 : List UInt8 := [182, 1, 137, 44, 21, 6, 4, 96, 51, 160, 0, 7, 3, 167, 0, 4, 4, 96, 79, 132, 6, 2]
abbrev dktX1_hears_6 : List UInt8 := dkwX1_hears_6 ++ dktX1_hears_7
def dkwX1_hears_5 : List UInt8 := [54, 6, 21, 6, 27, 162, 0, 43, 42, 180, 0, 52, 21, 5, 92, 46, 42, 21, 5, 44, 21, 6, 51]
abbrev dktX1_hears_5 : List UInt8 := dkwX1_hears_5 ++ dktX1_hears_6
def dkwX1_hears_4 : List UInt8 := [54, 5, 21, 5, 42, 180, 0, 22, 180, 0, 101, 162, 0, 90, 42, 180, 0, 52, 21, 5, 3, 79, 3]
abbrev dktX1_hears_4 : List UInt8 := dkwX1_hears_4 ++ dktX1_hears_5
def dkwX1_hears_3 : List UInt8 := [153, 0, 7, 4, 167, 0, 4, 3, 62, 132, 4, 2, 167, 255, 209, 29, 184, 0, 116, 3, 54, 4, 3]
abbrev dktX1_hears_3 : List UInt8 := dkwX1_hears_3 ++ dktX1_hears_4
def dkwX1_hears_2 : List UInt8 := [21, 4, 51, 3, 16, 6, 184, 0, 104, 153, 0, 22, 44, 21, 4, 4, 96, 51, 3, 16, 10, 184, 0, 104]
abbrev dktX1_hears_2 : List UInt8 := dkwX1_hears_2 ++ dktX1_hears_3
def dkwX1_hears_1 : List UInt8 := [163, 0, 7, 4, 167, 0, 4, 3, 62, 3, 54, 4, 21, 4, 27, 162, 0, 47, 29, 153, 0, 43, 44]
abbrev dktX1_hears_1 : List UInt8 := dkwX1_hears_1 ++ dktX1_hears_2
def dkwX1_hears_0 : List UInt8 := [42, 182, 0, 135, 60, 42, 180, 0, 15, 180, 0, 119, 77, 27, 5, 112, 154, 0, 13, 27, 16, 40]
abbrev dktX1_hears_0 : List UInt8 := dkwX1_hears_0 ++ dktX1_hears_1
theorem dksX1_hears_0 : cX1_hears.data.toList.drop 0 = dktX1_hears_0 := by decide +kernel
theorem dksX1_hears_1 : cX1_hears.data.toList.drop 22 = dktX1_hears_1 := dk_seg dksX1_hears_0 22 rfl rfl
theorem dksX1_hears_2 : cX1_hears.data.toList.drop 45 = dktX1_hears_2 := dk_seg dksX1_hears_1 23 rfl rfl
theorem dksX1_hears_3 : cX1_hears.data.toList.drop 69 = dktX1_hears_3 := dk_seg dksX1_hears_2 24 rfl rfl
theorem dksX1_hears_4 : cX1_hears.data.toList.drop 92 = dktX1_hears_4 := dk_seg dksX1_hears_3 23 rfl rfl
theorem dksX1_hears_5 : cX1_hears.data.toList.drop 115 = dktX1_hears_5 := dk_seg dksX1_hears_4 23 rfl rfl
theorem dksX1_hears_6 : cX1_hears.data.toList.drop 138 = dktX1_hears_6 := dk_seg dksX1_hears_5 23 rfl rfl
theorem dksX1_hears_7 : cX1_hears.data.toList.drop 160 = dktX1_hears_7 := dk_seg dksX1_hears_6 22 rfl rfl
theorem dksX1_hears_8 : cX1_hears.data.toList.drop 184 = dktX1_hears_8 := dk_seg dksX1_hears_7 24 rfl rfl
theorem dX1_hears_0 : decode cX1_hears 0 = .ok (.aload_n 0, 1) := dk_42 (dk_at dksX1_hears_0 0 rfl rfl)
theorem dX1_hears_1 : decode cX1_hears 1 = .ok (.invokevirtual 135, 3) := dk_182 0 135 (dk_at dksX1_hears_0 1 rfl rfl)
theorem dX1_hears_4 : decode cX1_hears 4 = .ok (.istore_n 1, 1) := dk_60 (dk_at dksX1_hears_0 4 rfl rfl)
theorem dX1_hears_5 : decode cX1_hears 5 = .ok (.aload_n 0, 1) := dk_42 (dk_at dksX1_hears_0 5 rfl rfl)
theorem dX1_hears_6 : decode cX1_hears 6 = .ok (.getfield 15, 3) := dk_180 0 15 (dk_at dksX1_hears_0 6 rfl rfl)
theorem dX1_hears_9 : decode cX1_hears 9 = .ok (.getfield 119, 3) := dk_180 0 119 (dk_at dksX1_hears_0 9 rfl rfl)
theorem dX1_hears_12 : decode cX1_hears 12 = .ok (.astore_n 2, 1) := dk_77 (dk_at dksX1_hears_0 12 rfl rfl)
theorem dX1_hears_13 : decode cX1_hears 13 = .ok (.iload_n 1, 1) := dk_27 (dk_at dksX1_hears_0 13 rfl rfl)
theorem dX1_hears_14 : decode cX1_hears 14 = .ok (.iconst 2, 1) := dk_5 (dk_at dksX1_hears_0 14 rfl rfl)
theorem dX1_hears_15 : decode cX1_hears 15 = .ok (.irem, 1) := dk_112 (dk_at dksX1_hears_0 15 rfl rfl)
theorem dX1_hears_16 : decode cX1_hears 16 = .ok (.ifCond .ne 13, 3) := dk_154 0 13 (dk_at dksX1_hears_0 16 rfl rfl)
theorem dX1_hears_19 : decode cX1_hears 19 = .ok (.iload_n 1, 1) := dk_27 (dk_at dksX1_hears_0 19 rfl rfl)
theorem dX1_hears_20 : decode cX1_hears 20 = .ok (.bipush 40, 2) := dk_16 40 (dk_at dksX1_hears_0 20 rfl rfl)
theorem dX1_hears_22 : decode cX1_hears 22 = .ok (.if_icmp .gt 7, 3) := dk_163 0 7 (dk_at dksX1_hears_1 0 rfl rfl)
theorem dX1_hears_25 : decode cX1_hears 25 = .ok (.iconst 1, 1) := dk_4 (dk_at dksX1_hears_1 3 rfl rfl)
theorem dX1_hears_26 : decode cX1_hears 26 = .ok (.goto 4, 3) := dk_167 0 4 (dk_at dksX1_hears_1 4 rfl rfl)
theorem dX1_hears_29 : decode cX1_hears 29 = .ok (.iconst 0, 1) := dk_3 (dk_at dksX1_hears_1 7 rfl rfl)
theorem dX1_hears_30 : decode cX1_hears 30 = .ok (.istore_n 3, 1) := dk_62 (dk_at dksX1_hears_1 8 rfl rfl)
theorem dX1_hears_31 : decode cX1_hears 31 = .ok (.iconst 0, 1) := dk_3 (dk_at dksX1_hears_1 9 rfl rfl)
theorem dX1_hears_32 : decode cX1_hears 32 = .ok (.istore 4, 2) := dk_54 4 (dk_at dksX1_hears_1 10 rfl rfl)
theorem dX1_hears_34 : decode cX1_hears 34 = .ok (.iload 4, 2) := dk_21 4 (dk_at dksX1_hears_1 12 rfl rfl)
theorem dX1_hears_36 : decode cX1_hears 36 = .ok (.iload_n 1, 1) := dk_27 (dk_at dksX1_hears_1 14 rfl rfl)
theorem dX1_hears_37 : decode cX1_hears 37 = .ok (.if_icmp .ge 47, 3) := dk_162 0 47 (dk_at dksX1_hears_1 15 rfl rfl)
theorem dX1_hears_40 : decode cX1_hears 40 = .ok (.iload_n 3, 1) := dk_29 (dk_at dksX1_hears_1 18 rfl rfl)
theorem dX1_hears_41 : decode cX1_hears 41 = .ok (.ifCond .eq 43, 3) := dk_153 0 43 (dk_at dksX1_hears_1 19 rfl rfl)
theorem dX1_hears_44 : decode cX1_hears 44 = .ok (.aload_n 2, 1) := dk_44 (dk_at dksX1_hears_1 22 rfl rfl)
theorem dX1_hears_45 : decode cX1_hears 45 = .ok (.iload 4, 2) := dk_21 4 (dk_at dksX1_hears_2 0 rfl rfl)
theorem dX1_hears_47 : decode cX1_hears 47 = .ok (.baload, 1) := dk_51 (dk_at dksX1_hears_2 2 rfl rfl)
theorem dX1_hears_48 : decode cX1_hears 48 = .ok (.iconst 0, 1) := dk_3 (dk_at dksX1_hears_2 3 rfl rfl)
theorem dX1_hears_49 : decode cX1_hears 49 = .ok (.bipush 6, 2) := dk_16 6 (dk_at dksX1_hears_2 4 rfl rfl)
theorem dX1_hears_51 : decode cX1_hears 51 = .ok (.invokestatic 104, 3) := dk_184 0 104 (dk_at dksX1_hears_2 6 rfl rfl)
theorem dX1_hears_54 : decode cX1_hears 54 = .ok (.ifCond .eq 22, 3) := dk_153 0 22 (dk_at dksX1_hears_2 9 rfl rfl)
theorem dX1_hears_57 : decode cX1_hears 57 = .ok (.aload_n 2, 1) := dk_44 (dk_at dksX1_hears_2 12 rfl rfl)
theorem dX1_hears_58 : decode cX1_hears 58 = .ok (.iload 4, 2) := dk_21 4 (dk_at dksX1_hears_2 13 rfl rfl)
theorem dX1_hears_60 : decode cX1_hears 60 = .ok (.iconst 1, 1) := dk_4 (dk_at dksX1_hears_2 15 rfl rfl)
theorem dX1_hears_61 : decode cX1_hears 61 = .ok (.iadd, 1) := dk_96 (dk_at dksX1_hears_2 16 rfl rfl)
theorem dX1_hears_62 : decode cX1_hears 62 = .ok (.baload, 1) := dk_51 (dk_at dksX1_hears_2 17 rfl rfl)
theorem dX1_hears_63 : decode cX1_hears 63 = .ok (.iconst 0, 1) := dk_3 (dk_at dksX1_hears_2 18 rfl rfl)
theorem dX1_hears_64 : decode cX1_hears 64 = .ok (.bipush 10, 2) := dk_16 10 (dk_at dksX1_hears_2 19 rfl rfl)
theorem dX1_hears_66 : decode cX1_hears 66 = .ok (.invokestatic 104, 3) := dk_184 0 104 (dk_at dksX1_hears_2 21 rfl rfl)
theorem dX1_hears_69 : decode cX1_hears 69 = .ok (.ifCond .eq 7, 3) := dk_153 0 7 (dk_at dksX1_hears_3 0 rfl rfl)
theorem dX1_hears_72 : decode cX1_hears 72 = .ok (.iconst 1, 1) := dk_4 (dk_at dksX1_hears_3 3 rfl rfl)
theorem dX1_hears_73 : decode cX1_hears 73 = .ok (.goto 4, 3) := dk_167 0 4 (dk_at dksX1_hears_3 4 rfl rfl)
theorem dX1_hears_76 : decode cX1_hears 76 = .ok (.iconst 0, 1) := dk_3 (dk_at dksX1_hears_3 7 rfl rfl)
theorem dX1_hears_77 : decode cX1_hears 77 = .ok (.istore_n 3, 1) := dk_62 (dk_at dksX1_hears_3 8 rfl rfl)
theorem dX1_hears_78 : decode cX1_hears 78 = .ok (.iinc 4 2, 3) := dk_132 4 2 (dk_at dksX1_hears_3 9 rfl rfl)
theorem dX1_hears_81 : decode cX1_hears 81 = .ok (.goto (-47), 3) := dk_167 255 209 (dk_at dksX1_hears_3 12 rfl rfl)
theorem dX1_hears_84 : decode cX1_hears 84 = .ok (.iload_n 3, 1) := dk_29 (dk_at dksX1_hears_3 15 rfl rfl)
theorem dX1_hears_85 : decode cX1_hears 85 = .ok (.invokestatic 116, 3) := dk_184 0 116 (dk_at dksX1_hears_3 16 rfl rfl)
theorem dX1_hears_88 : decode cX1_hears 88 = .ok (.iconst 0, 1) := dk_3 (dk_at dksX1_hears_3 19 rfl rfl)
theorem dX1_hears_89 : decode cX1_hears 89 = .ok (.istore 4, 2) := dk_54 4 (dk_at dksX1_hears_3 20 rfl rfl)
theorem dX1_hears_91 : decode cX1_hears 91 = .ok (.iconst 0, 1) := dk_3 (dk_at dksX1_hears_3 22 rfl rfl)
theorem dX1_hears_92 : decode cX1_hears 92 = .ok (.istore 5, 2) := dk_54 5 (dk_at dksX1_hears_4 0 rfl rfl)
theorem dX1_hears_94 : decode cX1_hears 94 = .ok (.iload 5, 2) := dk_21 5 (dk_at dksX1_hears_4 2 rfl rfl)
theorem dX1_hears_96 : decode cX1_hears 96 = .ok (.aload_n 0, 1) := dk_42 (dk_at dksX1_hears_4 4 rfl rfl)
theorem dX1_hears_97 : decode cX1_hears 97 = .ok (.getfield 22, 3) := dk_180 0 22 (dk_at dksX1_hears_4 5 rfl rfl)
theorem dX1_hears_100 : decode cX1_hears 100 = .ok (.getfield 101, 3) := dk_180 0 101 (dk_at dksX1_hears_4 8 rfl rfl)
theorem dX1_hears_103 : decode cX1_hears 103 = .ok (.if_icmp .ge 90, 3) := dk_162 0 90 (dk_at dksX1_hears_4 11 rfl rfl)
theorem dX1_hears_106 : decode cX1_hears 106 = .ok (.aload_n 0, 1) := dk_42 (dk_at dksX1_hears_4 14 rfl rfl)
theorem dX1_hears_107 : decode cX1_hears 107 = .ok (.getfield 52, 3) := dk_180 0 52 (dk_at dksX1_hears_4 15 rfl rfl)
theorem dX1_hears_110 : decode cX1_hears 110 = .ok (.iload 5, 2) := dk_21 5 (dk_at dksX1_hears_4 18 rfl rfl)
theorem dX1_hears_112 : decode cX1_hears 112 = .ok (.iconst 0, 1) := dk_3 (dk_at dksX1_hears_4 20 rfl rfl)
theorem dX1_hears_113 : decode cX1_hears 113 = .ok (.iastore, 1) := dk_79 (dk_at dksX1_hears_4 21 rfl rfl)
theorem dX1_hears_114 : decode cX1_hears 114 = .ok (.iconst 0, 1) := dk_3 (dk_at dksX1_hears_4 22 rfl rfl)
theorem dX1_hears_115 : decode cX1_hears 115 = .ok (.istore 6, 2) := dk_54 6 (dk_at dksX1_hears_5 0 rfl rfl)
theorem dX1_hears_117 : decode cX1_hears 117 = .ok (.iload 6, 2) := dk_21 6 (dk_at dksX1_hears_5 2 rfl rfl)
theorem dX1_hears_119 : decode cX1_hears 119 = .ok (.iload_n 1, 1) := dk_27 (dk_at dksX1_hears_5 4 rfl rfl)
theorem dX1_hears_120 : decode cX1_hears 120 = .ok (.if_icmp .ge 43, 3) := dk_162 0 43 (dk_at dksX1_hears_5 5 rfl rfl)
theorem dX1_hears_123 : decode cX1_hears 123 = .ok (.aload_n 0, 1) := dk_42 (dk_at dksX1_hears_5 8 rfl rfl)
theorem dX1_hears_124 : decode cX1_hears 124 = .ok (.getfield 52, 3) := dk_180 0 52 (dk_at dksX1_hears_5 9 rfl rfl)
theorem dX1_hears_127 : decode cX1_hears 127 = .ok (.iload 5, 2) := dk_21 5 (dk_at dksX1_hears_5 12 rfl rfl)
theorem dX1_hears_129 : decode cX1_hears 129 = .ok (.dup2, 1) := dk_92 (dk_at dksX1_hears_5 14 rfl rfl)
theorem dX1_hears_130 : decode cX1_hears 130 = .ok (.iaload, 1) := dk_46 (dk_at dksX1_hears_5 15 rfl rfl)
theorem dX1_hears_131 : decode cX1_hears 131 = .ok (.aload_n 0, 1) := dk_42 (dk_at dksX1_hears_5 16 rfl rfl)
theorem dX1_hears_132 : decode cX1_hears 132 = .ok (.iload 5, 2) := dk_21 5 (dk_at dksX1_hears_5 17 rfl rfl)
theorem dX1_hears_134 : decode cX1_hears 134 = .ok (.aload_n 2, 1) := dk_44 (dk_at dksX1_hears_5 19 rfl rfl)
theorem dX1_hears_135 : decode cX1_hears 135 = .ok (.iload 6, 2) := dk_21 6 (dk_at dksX1_hears_5 20 rfl rfl)
theorem dX1_hears_137 : decode cX1_hears 137 = .ok (.baload, 1) := dk_51 (dk_at dksX1_hears_5 22 rfl rfl)
theorem dX1_hears_138 : decode cX1_hears 138 = .ok (.invokevirtual 393, 3) := dk_182 1 137 (dk_at dksX1_hears_6 0 rfl rfl)
theorem dX1_hears_141 : decode cX1_hears 141 = .ok (.aload_n 2, 1) := dk_44 (dk_at dksX1_hears_6 3 rfl rfl)
theorem dX1_hears_142 : decode cX1_hears 142 = .ok (.iload 6, 2) := dk_21 6 (dk_at dksX1_hears_6 4 rfl rfl)
theorem dX1_hears_144 : decode cX1_hears 144 = .ok (.iconst 1, 1) := dk_4 (dk_at dksX1_hears_6 6 rfl rfl)
theorem dX1_hears_145 : decode cX1_hears 145 = .ok (.iadd, 1) := dk_96 (dk_at dksX1_hears_6 7 rfl rfl)
theorem dX1_hears_146 : decode cX1_hears 146 = .ok (.baload, 1) := dk_51 (dk_at dksX1_hears_6 8 rfl rfl)
theorem dX1_hears_147 : decode cX1_hears 147 = .ok (.if_icmp .ne 7, 3) := dk_160 0 7 (dk_at dksX1_hears_6 9 rfl rfl)
theorem dX1_hears_150 : decode cX1_hears 150 = .ok (.iconst 0, 1) := dk_3 (dk_at dksX1_hears_6 12 rfl rfl)
theorem dX1_hears_151 : decode cX1_hears 151 = .ok (.goto 4, 3) := dk_167 0 4 (dk_at dksX1_hears_6 13 rfl rfl)
theorem dX1_hears_154 : decode cX1_hears 154 = .ok (.iconst 1, 1) := dk_4 (dk_at dksX1_hears_6 16 rfl rfl)
theorem dX1_hears_155 : decode cX1_hears 155 = .ok (.iadd, 1) := dk_96 (dk_at dksX1_hears_6 17 rfl rfl)
theorem dX1_hears_156 : decode cX1_hears 156 = .ok (.iastore, 1) := dk_79 (dk_at dksX1_hears_6 18 rfl rfl)
theorem dX1_hears_157 : decode cX1_hears 157 = .ok (.iinc 6 2, 3) := dk_132 6 2 (dk_at dksX1_hears_6 19 rfl rfl)
theorem dX1_hears_160 : decode cX1_hears 160 = .ok (.goto (-43), 3) := dk_167 255 213 (dk_at dksX1_hears_7 0 rfl rfl)
theorem dX1_hears_163 : decode cX1_hears 163 = .ok (.iload 4, 2) := dk_21 4 (dk_at dksX1_hears_7 3 rfl rfl)
theorem dX1_hears_165 : decode cX1_hears 165 = .ok (.aload_n 0, 1) := dk_42 (dk_at dksX1_hears_7 5 rfl rfl)
theorem dX1_hears_166 : decode cX1_hears 166 = .ok (.getfield 52, 3) := dk_180 0 52 (dk_at dksX1_hears_7 6 rfl rfl)
theorem dX1_hears_169 : decode cX1_hears 169 = .ok (.iload 5, 2) := dk_21 5 (dk_at dksX1_hears_7 9 rfl rfl)
theorem dX1_hears_171 : decode cX1_hears 171 = .ok (.iaload, 1) := dk_46 (dk_at dksX1_hears_7 11 rfl rfl)
theorem dX1_hears_172 : decode cX1_hears 172 = .ok (.iconst 1, 1) := dk_4 (dk_at dksX1_hears_7 12 rfl rfl)
theorem dX1_hears_173 : decode cX1_hears 173 = .ok (.if_icmp .gt 10, 3) := dk_163 0 10 (dk_at dksX1_hears_7 13 rfl rfl)
theorem dX1_hears_176 : decode cX1_hears 176 = .ok (.iconst 1, 1) := dk_4 (dk_at dksX1_hears_7 16 rfl rfl)
theorem dX1_hears_177 : decode cX1_hears 177 = .ok (.iload 5, 2) := dk_21 5 (dk_at dksX1_hears_7 17 rfl rfl)
theorem dX1_hears_179 : decode cX1_hears 179 = .ok (.ishl, 1) := dk_120 (dk_at dksX1_hears_7 19 rfl rfl)
theorem dX1_hears_180 : decode cX1_hears 180 = .ok (.goto 4, 3) := dk_167 0 4 (dk_at dksX1_hears_7 20 rfl rfl)
theorem dX1_hears_183 : decode cX1_hears 183 = .ok (.iconst 0, 1) := dk_3 (dk_at dksX1_hears_7 23 rfl rfl)
theorem dX1_hears_184 : decode cX1_hears 184 = .ok (.ior, 1) := dk_128 (dk_at dksX1_hears_8 0 rfl rfl)
theorem dX1_hears_185 : decode cX1_hears 185 = .ok (.istore 4, 2) := dk_54 4 (dk_at dksX1_hears_8 1 rfl rfl)
theorem dX1_hears_187 : decode cX1_hears 187 = .ok (.iinc 5 1, 3) := dk_132 5 1 (dk_at dksX1_hears_8 3 rfl rfl)
theorem dX1_hears_190 : decode cX1_hears 190 = .ok (.goto (-96), 3) := dk_167 255 160 (dk_at dksX1_hears_8 6 rfl rfl)
theorem dX1_hears_193 : decode cX1_hears 193 = .ok (.iload 4, 2) := dk_21 4 (dk_at dksX1_hears_8 9 rfl rfl)
theorem dX1_hears_195 : decode cX1_hears 195 = .ok (.ireturn, 1) := dk_172 (dk_at dksX1_hears_8 11 rfl rfl)
abbrev cX1_told : ByteArray := prog_1_method_64_code
def yX1_told : MethodName := ⟨RX1, "told", "(II)I"⟩
def dkwX1_told_2 : List UInt8 := [46, 167, 0, 13, 45, 28, 5, 100, 182, 0, 244, 184, 0, 248, 172]
abbrev dktX1_told_2 : List UInt8 := dkwX1_told_2 ++ []
def dkwX1_told_1 : List UInt8 := [160, 0, 13, 45, 180, 0, 199, 184, 0, 248, 167, 0, 28, 28, 16, 6, 160, 0, 12, 45, 180, 1, 22, 3]
abbrev dktX1_told_1 : List UInt8 := dkwX1_told_1 ++ dktX1_told_2
def dkwX1_told_0 : List UInt8 := [42, 180, 0, 22, 180, 0, 112, 27, 50, 78, 28, 154, 0, 10, 45, 180, 0, 252, 167, 0, 43, 28, 4]
abbrev dktX1_told_0 : List UInt8 := dkwX1_told_0 ++ dktX1_told_1
theorem dksX1_told_0 : cX1_told.data.toList.drop 0 = dktX1_told_0 := by decide +kernel
theorem dksX1_told_1 : cX1_told.data.toList.drop 23 = dktX1_told_1 := dk_seg dksX1_told_0 23 rfl rfl
theorem dksX1_told_2 : cX1_told.data.toList.drop 47 = dktX1_told_2 := dk_seg dksX1_told_1 24 rfl rfl
theorem dX1_told_0 : decode cX1_told 0 = .ok (.aload_n 0, 1) := dk_42 (dk_at dksX1_told_0 0 rfl rfl)
theorem dX1_told_1 : decode cX1_told 1 = .ok (.getfield 22, 3) := dk_180 0 22 (dk_at dksX1_told_0 1 rfl rfl)
theorem dX1_told_4 : decode cX1_told 4 = .ok (.getfield 112, 3) := dk_180 0 112 (dk_at dksX1_told_0 4 rfl rfl)
theorem dX1_told_7 : decode cX1_told 7 = .ok (.iload_n 1, 1) := dk_27 (dk_at dksX1_told_0 7 rfl rfl)
theorem dX1_told_8 : decode cX1_told 8 = .ok (.aaload, 1) := dk_50 (dk_at dksX1_told_0 8 rfl rfl)
theorem dX1_told_9 : decode cX1_told 9 = .ok (.astore_n 3, 1) := dk_78 (dk_at dksX1_told_0 9 rfl rfl)
theorem dX1_told_10 : decode cX1_told 10 = .ok (.iload_n 2, 1) := dk_28 (dk_at dksX1_told_0 10 rfl rfl)
theorem dX1_told_11 : decode cX1_told 11 = .ok (.ifCond .ne 10, 3) := dk_154 0 10 (dk_at dksX1_told_0 11 rfl rfl)
theorem dX1_told_14 : decode cX1_told 14 = .ok (.aload_n 3, 1) := dk_45 (dk_at dksX1_told_0 14 rfl rfl)
theorem dX1_told_15 : decode cX1_told 15 = .ok (.getfield 252, 3) := dk_180 0 252 (dk_at dksX1_told_0 15 rfl rfl)
theorem dX1_told_18 : decode cX1_told 18 = .ok (.goto 43, 3) := dk_167 0 43 (dk_at dksX1_told_0 18 rfl rfl)
theorem dX1_told_21 : decode cX1_told 21 = .ok (.iload_n 2, 1) := dk_28 (dk_at dksX1_told_0 21 rfl rfl)
theorem dX1_told_22 : decode cX1_told 22 = .ok (.iconst 1, 1) := dk_4 (dk_at dksX1_told_0 22 rfl rfl)
theorem dX1_told_23 : decode cX1_told 23 = .ok (.if_icmp .ne 13, 3) := dk_160 0 13 (dk_at dksX1_told_1 0 rfl rfl)
theorem dX1_told_26 : decode cX1_told 26 = .ok (.aload_n 3, 1) := dk_45 (dk_at dksX1_told_1 3 rfl rfl)
theorem dX1_told_27 : decode cX1_told 27 = .ok (.getfield 199, 3) := dk_180 0 199 (dk_at dksX1_told_1 4 rfl rfl)
theorem dX1_told_30 : decode cX1_told 30 = .ok (.invokestatic 248, 3) := dk_184 0 248 (dk_at dksX1_told_1 7 rfl rfl)
theorem dX1_told_33 : decode cX1_told 33 = .ok (.goto 28, 3) := dk_167 0 28 (dk_at dksX1_told_1 10 rfl rfl)
theorem dX1_told_36 : decode cX1_told 36 = .ok (.iload_n 2, 1) := dk_28 (dk_at dksX1_told_1 13 rfl rfl)
theorem dX1_told_37 : decode cX1_told 37 = .ok (.bipush 6, 2) := dk_16 6 (dk_at dksX1_told_1 14 rfl rfl)
theorem dX1_told_39 : decode cX1_told 39 = .ok (.if_icmp .ne 12, 3) := dk_160 0 12 (dk_at dksX1_told_1 16 rfl rfl)
theorem dX1_told_42 : decode cX1_told 42 = .ok (.aload_n 3, 1) := dk_45 (dk_at dksX1_told_1 19 rfl rfl)
theorem dX1_told_43 : decode cX1_told 43 = .ok (.getfield 278, 3) := dk_180 1 22 (dk_at dksX1_told_1 20 rfl rfl)
theorem dX1_told_46 : decode cX1_told 46 = .ok (.iconst 0, 1) := dk_3 (dk_at dksX1_told_1 23 rfl rfl)
theorem dX1_told_47 : decode cX1_told 47 = .ok (.iaload, 1) := dk_46 (dk_at dksX1_told_2 0 rfl rfl)
theorem dX1_told_48 : decode cX1_told 48 = .ok (.goto 13, 3) := dk_167 0 13 (dk_at dksX1_told_2 1 rfl rfl)
theorem dX1_told_51 : decode cX1_told 51 = .ok (.aload_n 3, 1) := dk_45 (dk_at dksX1_told_2 4 rfl rfl)
theorem dX1_told_52 : decode cX1_told 52 = .ok (.iload_n 2, 1) := dk_28 (dk_at dksX1_told_2 5 rfl rfl)
theorem dX1_told_53 : decode cX1_told 53 = .ok (.iconst 2, 1) := dk_5 (dk_at dksX1_told_2 6 rfl rfl)
theorem dX1_told_54 : decode cX1_told 54 = .ok (.isub, 1) := dk_100 (dk_at dksX1_told_2 7 rfl rfl)
theorem dX1_told_55 : decode cX1_told 55 = .ok (.invokevirtual 244, 3) := dk_182 0 244 (dk_at dksX1_told_2 8 rfl rfl)
theorem dX1_told_58 : decode cX1_told 58 = .ok (.invokestatic 248, 3) := dk_184 0 248 (dk_at dksX1_told_2 11 rfl rfl)
theorem dX1_told_61 : decode cX1_told 61 = .ok (.ireturn, 1) := dk_172 (dk_at dksX1_told_2 14 rfl rfl)
abbrev cX1_likely : ByteArray := prog_1_method_67_code
def yX1_likely : MethodName := ⟨RX1, "likely", "()I"⟩
def dkwX1_likely_2 : List UInt8 := [162, 0, 5, 29, 61, 132, 3, 1, 167, 255, 211, 28, 172]
abbrev dktX1_likely_2 : List UInt8 := dkwX1_likely_2 ++ []
def dkwX1_likely_1 : List UInt8 := [126, 4, 160, 0, 25, 28, 2, 159, 0, 18, 42, 180, 0, 52, 29, 46, 42, 180, 0, 52, 28, 46]
abbrev dktX1_likely_1 : List UInt8 := dkwX1_likely_1 ++ dktX1_likely_2
def dkwX1_likely_0 : List UInt8 := [42, 182, 1, 140, 60, 2, 61, 3, 62, 29, 42, 180, 0, 22, 180, 0, 101, 162, 0, 40, 27, 29, 122, 4]
abbrev dktX1_likely_0 : List UInt8 := dkwX1_likely_0 ++ dktX1_likely_1
theorem dksX1_likely_0 : cX1_likely.data.toList.drop 0 = dktX1_likely_0 := by decide +kernel
theorem dksX1_likely_1 : cX1_likely.data.toList.drop 24 = dktX1_likely_1 := dk_seg dksX1_likely_0 24 rfl rfl
theorem dksX1_likely_2 : cX1_likely.data.toList.drop 46 = dktX1_likely_2 := dk_seg dksX1_likely_1 22 rfl rfl
theorem dX1_likely_0 : decode cX1_likely 0 = .ok (.aload_n 0, 1) := dk_42 (dk_at dksX1_likely_0 0 rfl rfl)
theorem dX1_likely_1 : decode cX1_likely 1 = .ok (.invokevirtual 396, 3) := dk_182 1 140 (dk_at dksX1_likely_0 1 rfl rfl)
theorem dX1_likely_4 : decode cX1_likely 4 = .ok (.istore_n 1, 1) := dk_60 (dk_at dksX1_likely_0 4 rfl rfl)
theorem dX1_likely_5 : decode cX1_likely 5 = .ok (.iconst (-1), 1) := dk_2 (dk_at dksX1_likely_0 5 rfl rfl)
theorem dX1_likely_6 : decode cX1_likely 6 = .ok (.istore_n 2, 1) := dk_61 (dk_at dksX1_likely_0 6 rfl rfl)
theorem dX1_likely_7 : decode cX1_likely 7 = .ok (.iconst 0, 1) := dk_3 (dk_at dksX1_likely_0 7 rfl rfl)
theorem dX1_likely_8 : decode cX1_likely 8 = .ok (.istore_n 3, 1) := dk_62 (dk_at dksX1_likely_0 8 rfl rfl)
theorem dX1_likely_9 : decode cX1_likely 9 = .ok (.iload_n 3, 1) := dk_29 (dk_at dksX1_likely_0 9 rfl rfl)
theorem dX1_likely_10 : decode cX1_likely 10 = .ok (.aload_n 0, 1) := dk_42 (dk_at dksX1_likely_0 10 rfl rfl)
theorem dX1_likely_11 : decode cX1_likely 11 = .ok (.getfield 22, 3) := dk_180 0 22 (dk_at dksX1_likely_0 11 rfl rfl)
theorem dX1_likely_14 : decode cX1_likely 14 = .ok (.getfield 101, 3) := dk_180 0 101 (dk_at dksX1_likely_0 14 rfl rfl)
theorem dX1_likely_17 : decode cX1_likely 17 = .ok (.if_icmp .ge 40, 3) := dk_162 0 40 (dk_at dksX1_likely_0 17 rfl rfl)
theorem dX1_likely_20 : decode cX1_likely 20 = .ok (.iload_n 1, 1) := dk_27 (dk_at dksX1_likely_0 20 rfl rfl)
theorem dX1_likely_21 : decode cX1_likely 21 = .ok (.iload_n 3, 1) := dk_29 (dk_at dksX1_likely_0 21 rfl rfl)
theorem dX1_likely_22 : decode cX1_likely 22 = .ok (.ishr, 1) := dk_122 (dk_at dksX1_likely_0 22 rfl rfl)
theorem dX1_likely_23 : decode cX1_likely 23 = .ok (.iconst 1, 1) := dk_4 (dk_at dksX1_likely_0 23 rfl rfl)
theorem dX1_likely_24 : decode cX1_likely 24 = .ok (.iand, 1) := dk_126 (dk_at dksX1_likely_1 0 rfl rfl)
theorem dX1_likely_25 : decode cX1_likely 25 = .ok (.iconst 1, 1) := dk_4 (dk_at dksX1_likely_1 1 rfl rfl)
theorem dX1_likely_26 : decode cX1_likely 26 = .ok (.if_icmp .ne 25, 3) := dk_160 0 25 (dk_at dksX1_likely_1 2 rfl rfl)
theorem dX1_likely_29 : decode cX1_likely 29 = .ok (.iload_n 2, 1) := dk_28 (dk_at dksX1_likely_1 5 rfl rfl)
theorem dX1_likely_30 : decode cX1_likely 30 = .ok (.iconst (-1), 1) := dk_2 (dk_at dksX1_likely_1 6 rfl rfl)
theorem dX1_likely_31 : decode cX1_likely 31 = .ok (.if_icmp .eq 18, 3) := dk_159 0 18 (dk_at dksX1_likely_1 7 rfl rfl)
theorem dX1_likely_34 : decode cX1_likely 34 = .ok (.aload_n 0, 1) := dk_42 (dk_at dksX1_likely_1 10 rfl rfl)
theorem dX1_likely_35 : decode cX1_likely 35 = .ok (.getfield 52, 3) := dk_180 0 52 (dk_at dksX1_likely_1 11 rfl rfl)
theorem dX1_likely_38 : decode cX1_likely 38 = .ok (.iload_n 3, 1) := dk_29 (dk_at dksX1_likely_1 14 rfl rfl)
theorem dX1_likely_39 : decode cX1_likely 39 = .ok (.iaload, 1) := dk_46 (dk_at dksX1_likely_1 15 rfl rfl)
theorem dX1_likely_40 : decode cX1_likely 40 = .ok (.aload_n 0, 1) := dk_42 (dk_at dksX1_likely_1 16 rfl rfl)
theorem dX1_likely_41 : decode cX1_likely 41 = .ok (.getfield 52, 3) := dk_180 0 52 (dk_at dksX1_likely_1 17 rfl rfl)
theorem dX1_likely_44 : decode cX1_likely 44 = .ok (.iload_n 2, 1) := dk_28 (dk_at dksX1_likely_1 20 rfl rfl)
theorem dX1_likely_45 : decode cX1_likely 45 = .ok (.iaload, 1) := dk_46 (dk_at dksX1_likely_1 21 rfl rfl)
theorem dX1_likely_46 : decode cX1_likely 46 = .ok (.if_icmp .ge 5, 3) := dk_162 0 5 (dk_at dksX1_likely_2 0 rfl rfl)
theorem dX1_likely_49 : decode cX1_likely 49 = .ok (.iload_n 3, 1) := dk_29 (dk_at dksX1_likely_2 3 rfl rfl)
theorem dX1_likely_50 : decode cX1_likely 50 = .ok (.istore_n 2, 1) := dk_61 (dk_at dksX1_likely_2 4 rfl rfl)
theorem dX1_likely_51 : decode cX1_likely 51 = .ok (.iinc 3 1, 3) := dk_132 3 1 (dk_at dksX1_likely_2 5 rfl rfl)
theorem dX1_likely_54 : decode cX1_likely 54 = .ok (.goto (-45), 3) := dk_167 255 211 (dk_at dksX1_likely_2 8 rfl rfl)
theorem dX1_likely_57 : decode cX1_likely 57 = .ok (.iload_n 2, 1) := dk_28 (dk_at dksX1_likely_2 11 rfl rfl)
theorem dX1_likely_58 : decode cX1_likely 58 = .ok (.ireturn, 1) := dk_172 (dk_at dksX1_likely_2 12 rfl rfl)
abbrev cX1_ask : ByteArray := prog_1_method_69_code
def yX1_ask : MethodName := ⟨RX1, "ask", "()I"⟩
def dkwX1_ask_2 : List UInt8 := [167, 0, 9, 21, 5, 62, 21, 4, 61, 132, 4, 1, 167, 255, 214, 28, 172]
abbrev dktX1_ask_2 : List UInt8 := dkwX1_ask_2 ++ []
def dkwX1_ask_1 : List UInt8 := [184, 1, 132, 4, 164, 0, 33, 42, 27, 21, 4, 182, 1, 144, 54, 5, 21, 5, 29, 161, 0, 6]
abbrev dktX1_ask_1 : List UInt8 := dkwX1_ask_1 ++ dktX1_ask_2
def dkwX1_ask_0 : List UInt8 := [42, 182, 1, 140, 60, 2, 61, 19, 1, 143, 62, 3, 54, 4, 21, 4, 16, 7, 162, 0, 41, 27]
abbrev dktX1_ask_0 : List UInt8 := dkwX1_ask_0 ++ dktX1_ask_1
theorem dksX1_ask_0 : cX1_ask.data.toList.drop 0 = dktX1_ask_0 := by decide +kernel
theorem dksX1_ask_1 : cX1_ask.data.toList.drop 22 = dktX1_ask_1 := dk_seg dksX1_ask_0 22 rfl rfl
theorem dksX1_ask_2 : cX1_ask.data.toList.drop 44 = dktX1_ask_2 := dk_seg dksX1_ask_1 22 rfl rfl
theorem dX1_ask_0 : decode cX1_ask 0 = .ok (.aload_n 0, 1) := dk_42 (dk_at dksX1_ask_0 0 rfl rfl)
theorem dX1_ask_1 : decode cX1_ask 1 = .ok (.invokevirtual 396, 3) := dk_182 1 140 (dk_at dksX1_ask_0 1 rfl rfl)
theorem dX1_ask_4 : decode cX1_ask 4 = .ok (.istore_n 1, 1) := dk_60 (dk_at dksX1_ask_0 4 rfl rfl)
theorem dX1_ask_5 : decode cX1_ask 5 = .ok (.iconst (-1), 1) := dk_2 (dk_at dksX1_ask_0 5 rfl rfl)
theorem dX1_ask_6 : decode cX1_ask 6 = .ok (.istore_n 2, 1) := dk_61 (dk_at dksX1_ask_0 6 rfl rfl)
theorem dX1_ask_7 : decode cX1_ask 7 = .ok (.ldc_w 399, 3) := dk_19 1 143 (dk_at dksX1_ask_0 7 rfl rfl)
theorem dX1_ask_10 : decode cX1_ask 10 = .ok (.istore_n 3, 1) := dk_62 (dk_at dksX1_ask_0 10 rfl rfl)
theorem dX1_ask_11 : decode cX1_ask 11 = .ok (.iconst 0, 1) := dk_3 (dk_at dksX1_ask_0 11 rfl rfl)
theorem dX1_ask_12 : decode cX1_ask 12 = .ok (.istore 4, 2) := dk_54 4 (dk_at dksX1_ask_0 12 rfl rfl)
theorem dX1_ask_14 : decode cX1_ask 14 = .ok (.iload 4, 2) := dk_21 4 (dk_at dksX1_ask_0 14 rfl rfl)
theorem dX1_ask_16 : decode cX1_ask 16 = .ok (.bipush 7, 2) := dk_16 7 (dk_at dksX1_ask_0 16 rfl rfl)
theorem dX1_ask_18 : decode cX1_ask 18 = .ok (.if_icmp .ge 41, 3) := dk_162 0 41 (dk_at dksX1_ask_0 18 rfl rfl)
theorem dX1_ask_21 : decode cX1_ask 21 = .ok (.iload_n 1, 1) := dk_27 (dk_at dksX1_ask_0 21 rfl rfl)
theorem dX1_ask_22 : decode cX1_ask 22 = .ok (.invokestatic 388, 3) := dk_184 1 132 (dk_at dksX1_ask_1 0 rfl rfl)
theorem dX1_ask_25 : decode cX1_ask 25 = .ok (.iconst 1, 1) := dk_4 (dk_at dksX1_ask_1 3 rfl rfl)
theorem dX1_ask_26 : decode cX1_ask 26 = .ok (.if_icmp .le 33, 3) := dk_164 0 33 (dk_at dksX1_ask_1 4 rfl rfl)
theorem dX1_ask_29 : decode cX1_ask 29 = .ok (.aload_n 0, 1) := dk_42 (dk_at dksX1_ask_1 7 rfl rfl)
theorem dX1_ask_30 : decode cX1_ask 30 = .ok (.iload_n 1, 1) := dk_27 (dk_at dksX1_ask_1 8 rfl rfl)
theorem dX1_ask_31 : decode cX1_ask 31 = .ok (.iload 4, 2) := dk_21 4 (dk_at dksX1_ask_1 9 rfl rfl)
theorem dX1_ask_33 : decode cX1_ask 33 = .ok (.invokevirtual 400, 3) := dk_182 1 144 (dk_at dksX1_ask_1 11 rfl rfl)
theorem dX1_ask_36 : decode cX1_ask 36 = .ok (.istore 5, 2) := dk_54 5 (dk_at dksX1_ask_1 14 rfl rfl)
theorem dX1_ask_38 : decode cX1_ask 38 = .ok (.iload 5, 2) := dk_21 5 (dk_at dksX1_ask_1 16 rfl rfl)
theorem dX1_ask_40 : decode cX1_ask 40 = .ok (.iload_n 3, 1) := dk_29 (dk_at dksX1_ask_1 18 rfl rfl)
theorem dX1_ask_41 : decode cX1_ask 41 = .ok (.if_icmp .lt 6, 3) := dk_161 0 6 (dk_at dksX1_ask_1 19 rfl rfl)
theorem dX1_ask_44 : decode cX1_ask 44 = .ok (.goto 9, 3) := dk_167 0 9 (dk_at dksX1_ask_2 0 rfl rfl)
theorem dX1_ask_47 : decode cX1_ask 47 = .ok (.iload 5, 2) := dk_21 5 (dk_at dksX1_ask_2 3 rfl rfl)
theorem dX1_ask_49 : decode cX1_ask 49 = .ok (.istore_n 3, 1) := dk_62 (dk_at dksX1_ask_2 5 rfl rfl)
theorem dX1_ask_50 : decode cX1_ask 50 = .ok (.iload 4, 2) := dk_21 4 (dk_at dksX1_ask_2 6 rfl rfl)
theorem dX1_ask_52 : decode cX1_ask 52 = .ok (.istore_n 2, 1) := dk_61 (dk_at dksX1_ask_2 8 rfl rfl)
theorem dX1_ask_53 : decode cX1_ask 53 = .ok (.iinc 4 1, 3) := dk_132 4 1 (dk_at dksX1_ask_2 9 rfl rfl)
theorem dX1_ask_56 : decode cX1_ask 56 = .ok (.goto (-42), 3) := dk_167 255 214 (dk_at dksX1_ask_2 12 rfl rfl)
theorem dX1_ask_59 : decode cX1_ask 59 = .ok (.iload_n 2, 1) := dk_28 (dk_at dksX1_ask_2 15 rfl rfl)
theorem dX1_ask_60 : decode cX1_ask 60 = .ok (.ireturn, 1) := dk_172 (dk_at dksX1_ask_2 16 rfl rfl)
abbrev cX1_partBy : ByteArray := prog_1_method_68_code
def yX1_partBy : MethodName := ⟨RX1, "partBy", "(II)I"⟩
def dkwX1_partBy_4 : List UInt8 := [167, 255, 168, 29, 172]
abbrev dktX1_partBy_4 : List UInt8 := dkwX1_partBy_4 ++ []
def dkwX1_partBy_3 : List UInt8 := [167, 0, 4, 3, 96, 54, 5, 132, 6, 1, 167, 255, 199, 29, 21, 5, 184, 1, 79, 62, 132, 4, 1]
abbrev dktX1_partBy_3 : List UInt8 := dkwX1_partBy_3 ++ dktX1_partBy_4
def dkwX1_partBy_2 : List UInt8 := [126, 4, 160, 0, 24, 42, 21, 4, 28, 182, 1, 137, 42, 21, 6, 28, 182, 1, 137, 160, 0, 7, 4]
abbrev dktX1_partBy_2 : List UInt8 := dkwX1_partBy_2 ++ dktX1_partBy_3
def dkwX1_partBy_1 : List UInt8 := [21, 6, 42, 180, 0, 22, 180, 0, 101, 162, 0, 51, 21, 5, 27, 21, 4, 122, 27, 21, 6, 122, 126, 4]
abbrev dktX1_partBy_1 : List UInt8 := dkwX1_partBy_1 ++ dktX1_partBy_2
def dkwX1_partBy_0 : List UInt8 := [3, 62, 3, 54, 4, 21, 4, 42, 180, 0, 22, 180, 0, 101, 162, 0, 82, 3, 54, 5, 3, 54, 6]
abbrev dktX1_partBy_0 : List UInt8 := dkwX1_partBy_0 ++ dktX1_partBy_1
theorem dksX1_partBy_0 : cX1_partBy.data.toList.drop 0 = dktX1_partBy_0 := by decide +kernel
theorem dksX1_partBy_1 : cX1_partBy.data.toList.drop 23 = dktX1_partBy_1 := dk_seg dksX1_partBy_0 23 rfl rfl
theorem dksX1_partBy_2 : cX1_partBy.data.toList.drop 47 = dktX1_partBy_2 := dk_seg dksX1_partBy_1 24 rfl rfl
theorem dksX1_partBy_3 : cX1_partBy.data.toList.drop 70 = dktX1_partBy_3 := dk_seg dksX1_partBy_2 23 rfl rfl
theorem dksX1_partBy_4 : cX1_partBy.data.toList.drop 93 = dktX1_partBy_4 := dk_seg dksX1_partBy_3 23 rfl rfl
theorem dX1_partBy_0 : decode cX1_partBy 0 = .ok (.iconst 0, 1) := dk_3 (dk_at dksX1_partBy_0 0 rfl rfl)
theorem dX1_partBy_1 : decode cX1_partBy 1 = .ok (.istore_n 3, 1) := dk_62 (dk_at dksX1_partBy_0 1 rfl rfl)
theorem dX1_partBy_2 : decode cX1_partBy 2 = .ok (.iconst 0, 1) := dk_3 (dk_at dksX1_partBy_0 2 rfl rfl)
theorem dX1_partBy_3 : decode cX1_partBy 3 = .ok (.istore 4, 2) := dk_54 4 (dk_at dksX1_partBy_0 3 rfl rfl)
theorem dX1_partBy_5 : decode cX1_partBy 5 = .ok (.iload 4, 2) := dk_21 4 (dk_at dksX1_partBy_0 5 rfl rfl)
theorem dX1_partBy_7 : decode cX1_partBy 7 = .ok (.aload_n 0, 1) := dk_42 (dk_at dksX1_partBy_0 7 rfl rfl)
theorem dX1_partBy_8 : decode cX1_partBy 8 = .ok (.getfield 22, 3) := dk_180 0 22 (dk_at dksX1_partBy_0 8 rfl rfl)
theorem dX1_partBy_11 : decode cX1_partBy 11 = .ok (.getfield 101, 3) := dk_180 0 101 (dk_at dksX1_partBy_0 11 rfl rfl)
theorem dX1_partBy_14 : decode cX1_partBy 14 = .ok (.if_icmp .ge 82, 3) := dk_162 0 82 (dk_at dksX1_partBy_0 14 rfl rfl)
theorem dX1_partBy_17 : decode cX1_partBy 17 = .ok (.iconst 0, 1) := dk_3 (dk_at dksX1_partBy_0 17 rfl rfl)
theorem dX1_partBy_18 : decode cX1_partBy 18 = .ok (.istore 5, 2) := dk_54 5 (dk_at dksX1_partBy_0 18 rfl rfl)
theorem dX1_partBy_20 : decode cX1_partBy 20 = .ok (.iconst 0, 1) := dk_3 (dk_at dksX1_partBy_0 20 rfl rfl)
theorem dX1_partBy_21 : decode cX1_partBy 21 = .ok (.istore 6, 2) := dk_54 6 (dk_at dksX1_partBy_0 21 rfl rfl)
theorem dX1_partBy_23 : decode cX1_partBy 23 = .ok (.iload 6, 2) := dk_21 6 (dk_at dksX1_partBy_1 0 rfl rfl)
theorem dX1_partBy_25 : decode cX1_partBy 25 = .ok (.aload_n 0, 1) := dk_42 (dk_at dksX1_partBy_1 2 rfl rfl)
theorem dX1_partBy_26 : decode cX1_partBy 26 = .ok (.getfield 22, 3) := dk_180 0 22 (dk_at dksX1_partBy_1 3 rfl rfl)
theorem dX1_partBy_29 : decode cX1_partBy 29 = .ok (.getfield 101, 3) := dk_180 0 101 (dk_at dksX1_partBy_1 6 rfl rfl)
theorem dX1_partBy_32 : decode cX1_partBy 32 = .ok (.if_icmp .ge 51, 3) := dk_162 0 51 (dk_at dksX1_partBy_1 9 rfl rfl)
theorem dX1_partBy_35 : decode cX1_partBy 35 = .ok (.iload 5, 2) := dk_21 5 (dk_at dksX1_partBy_1 12 rfl rfl)
theorem dX1_partBy_37 : decode cX1_partBy 37 = .ok (.iload_n 1, 1) := dk_27 (dk_at dksX1_partBy_1 14 rfl rfl)
theorem dX1_partBy_38 : decode cX1_partBy 38 = .ok (.iload 4, 2) := dk_21 4 (dk_at dksX1_partBy_1 15 rfl rfl)
theorem dX1_partBy_40 : decode cX1_partBy 40 = .ok (.ishr, 1) := dk_122 (dk_at dksX1_partBy_1 17 rfl rfl)
theorem dX1_partBy_41 : decode cX1_partBy 41 = .ok (.iload_n 1, 1) := dk_27 (dk_at dksX1_partBy_1 18 rfl rfl)
theorem dX1_partBy_42 : decode cX1_partBy 42 = .ok (.iload 6, 2) := dk_21 6 (dk_at dksX1_partBy_1 19 rfl rfl)
theorem dX1_partBy_44 : decode cX1_partBy 44 = .ok (.ishr, 1) := dk_122 (dk_at dksX1_partBy_1 21 rfl rfl)
theorem dX1_partBy_45 : decode cX1_partBy 45 = .ok (.iand, 1) := dk_126 (dk_at dksX1_partBy_1 22 rfl rfl)
theorem dX1_partBy_46 : decode cX1_partBy 46 = .ok (.iconst 1, 1) := dk_4 (dk_at dksX1_partBy_1 23 rfl rfl)
theorem dX1_partBy_47 : decode cX1_partBy 47 = .ok (.iand, 1) := dk_126 (dk_at dksX1_partBy_2 0 rfl rfl)
theorem dX1_partBy_48 : decode cX1_partBy 48 = .ok (.iconst 1, 1) := dk_4 (dk_at dksX1_partBy_2 1 rfl rfl)
theorem dX1_partBy_49 : decode cX1_partBy 49 = .ok (.if_icmp .ne 24, 3) := dk_160 0 24 (dk_at dksX1_partBy_2 2 rfl rfl)
theorem dX1_partBy_52 : decode cX1_partBy 52 = .ok (.aload_n 0, 1) := dk_42 (dk_at dksX1_partBy_2 5 rfl rfl)
theorem dX1_partBy_53 : decode cX1_partBy 53 = .ok (.iload 4, 2) := dk_21 4 (dk_at dksX1_partBy_2 6 rfl rfl)
theorem dX1_partBy_55 : decode cX1_partBy 55 = .ok (.iload_n 2, 1) := dk_28 (dk_at dksX1_partBy_2 8 rfl rfl)
theorem dX1_partBy_56 : decode cX1_partBy 56 = .ok (.invokevirtual 393, 3) := dk_182 1 137 (dk_at dksX1_partBy_2 9 rfl rfl)
theorem dX1_partBy_59 : decode cX1_partBy 59 = .ok (.aload_n 0, 1) := dk_42 (dk_at dksX1_partBy_2 12 rfl rfl)
theorem dX1_partBy_60 : decode cX1_partBy 60 = .ok (.iload 6, 2) := dk_21 6 (dk_at dksX1_partBy_2 13 rfl rfl)
theorem dX1_partBy_62 : decode cX1_partBy 62 = .ok (.iload_n 2, 1) := dk_28 (dk_at dksX1_partBy_2 15 rfl rfl)
theorem dX1_partBy_63 : decode cX1_partBy 63 = .ok (.invokevirtual 393, 3) := dk_182 1 137 (dk_at dksX1_partBy_2 16 rfl rfl)
theorem dX1_partBy_66 : decode cX1_partBy 66 = .ok (.if_icmp .ne 7, 3) := dk_160 0 7 (dk_at dksX1_partBy_2 19 rfl rfl)
theorem dX1_partBy_69 : decode cX1_partBy 69 = .ok (.iconst 1, 1) := dk_4 (dk_at dksX1_partBy_2 22 rfl rfl)
theorem dX1_partBy_70 : decode cX1_partBy 70 = .ok (.goto 4, 3) := dk_167 0 4 (dk_at dksX1_partBy_3 0 rfl rfl)
theorem dX1_partBy_73 : decode cX1_partBy 73 = .ok (.iconst 0, 1) := dk_3 (dk_at dksX1_partBy_3 3 rfl rfl)
theorem dX1_partBy_74 : decode cX1_partBy 74 = .ok (.iadd, 1) := dk_96 (dk_at dksX1_partBy_3 4 rfl rfl)
theorem dX1_partBy_75 : decode cX1_partBy 75 = .ok (.istore 5, 2) := dk_54 5 (dk_at dksX1_partBy_3 5 rfl rfl)
theorem dX1_partBy_77 : decode cX1_partBy 77 = .ok (.iinc 6 1, 3) := dk_132 6 1 (dk_at dksX1_partBy_3 7 rfl rfl)
theorem dX1_partBy_80 : decode cX1_partBy 80 = .ok (.goto (-57), 3) := dk_167 255 199 (dk_at dksX1_partBy_3 10 rfl rfl)
theorem dX1_partBy_83 : decode cX1_partBy 83 = .ok (.iload_n 3, 1) := dk_29 (dk_at dksX1_partBy_3 13 rfl rfl)
theorem dX1_partBy_84 : decode cX1_partBy 84 = .ok (.iload 5, 2) := dk_21 5 (dk_at dksX1_partBy_3 14 rfl rfl)
theorem dX1_partBy_86 : decode cX1_partBy 86 = .ok (.invokestatic 335, 3) := dk_184 1 79 (dk_at dksX1_partBy_3 16 rfl rfl)
theorem dX1_partBy_89 : decode cX1_partBy 89 = .ok (.istore_n 3, 1) := dk_62 (dk_at dksX1_partBy_3 19 rfl rfl)
theorem dX1_partBy_90 : decode cX1_partBy 90 = .ok (.iinc 4 1, 3) := dk_132 4 1 (dk_at dksX1_partBy_3 20 rfl rfl)
theorem dX1_partBy_93 : decode cX1_partBy 93 = .ok (.goto (-88), 3) := dk_167 255 168 (dk_at dksX1_partBy_4 0 rfl rfl)
theorem dX1_partBy_96 : decode cX1_partBy 96 = .ok (.iload_n 3, 1) := dk_29 (dk_at dksX1_partBy_4 3 rfl rfl)
theorem dX1_partBy_97 : decode cX1_partBy 97 = .ok (.ireturn, 1) := dk_172 (dk_at dksX1_partBy_4 4 rfl rfl)
abbrev cX1_pairs : ByteArray := prog_1_method_76_code
def yX1_pairs : MethodName := ⟨RX1, "pairs", "(I)I"⟩
def dkwX1_pairs_7 : List UInt8 := [120, 2, 130, 126, 61, 167, 255, 122, 2, 172]
abbrev dktX1_pairs_7 : List UInt8 := dkwX1_pairs_7 ++ []
def dkwX1_pairs_6 : List UInt8 := [27, 160, 0, 5, 29, 172, 28, 4, 29, 120, 2, 130, 126, 61, 21, 4, 2, 159, 0, 12, 28, 4, 21, 4]
abbrev dktX1_pairs_6 : List UInt8 := dkwX1_pairs_6 ++ dktX1_pairs_7
def dkwX1_pairs_5 : List UInt8 := [180, 0, 56, 28, 46, 159, 0, 9, 132, 4, 1, 167, 255, 200, 29, 27, 160, 0, 6, 21, 4, 172, 21, 4]
abbrev dktX1_pairs_5 : List UInt8 := dkwX1_pairs_5 ++ dktX1_pairs_6
def dkwX1_pairs_4 : List UInt8 := [21, 4, 182, 1, 156, 42, 180, 0, 56, 28, 4, 29, 120, 4, 21, 4, 120, 128, 2, 130, 126, 46, 96, 42]
abbrev dktX1_pairs_4 : List UInt8 := dkwX1_pairs_4 ++ dktX1_pairs_5
def dkwX1_pairs_3 : List UInt8 := [96, 54, 4, 28, 21, 4, 122, 4, 126, 153, 0, 47, 42, 29, 21, 4, 182, 1, 129, 154, 0, 37, 42, 29]
abbrev dktX1_pairs_3 : List UInt8 := dkwX1_pairs_3 ++ dktX1_pairs_4
def dkwX1_pairs_2 : List UInt8 := [2, 54, 4, 42, 180, 0, 56, 28, 28, 4, 100, 126, 46, 42, 180, 0, 56, 28, 46, 159, 0, 67, 29, 4]
abbrev dktX1_pairs_2 : List UInt8 := dkwX1_pairs_2 ++ dktX1_pairs_3
def dkwX1_pairs_1 : List UInt8 := [4, 100, 61, 27, 2, 160, 0, 10, 42, 180, 0, 56, 28, 46, 172, 28, 153, 0, 136, 28, 184, 1, 153, 62]
abbrev dktX1_pairs_1 : List UInt8 := dkwX1_pairs_1 ++ dktX1_pairs_2
def dkwX1_pairs_0 : List UInt8 := [27, 2, 159, 0, 9, 42, 27, 182, 0, 240, 87, 42, 182, 1, 159, 4, 42, 180, 0, 22, 180, 0, 101, 120]
abbrev dktX1_pairs_0 : List UInt8 := dkwX1_pairs_0 ++ dktX1_pairs_1
theorem dksX1_pairs_0 : cX1_pairs.data.toList.drop 0 = dktX1_pairs_0 := by decide +kernel
theorem dksX1_pairs_1 : cX1_pairs.data.toList.drop 24 = dktX1_pairs_1 := dk_seg dksX1_pairs_0 24 rfl rfl
theorem dksX1_pairs_2 : cX1_pairs.data.toList.drop 48 = dktX1_pairs_2 := dk_seg dksX1_pairs_1 24 rfl rfl
theorem dksX1_pairs_3 : cX1_pairs.data.toList.drop 72 = dktX1_pairs_3 := dk_seg dksX1_pairs_2 24 rfl rfl
theorem dksX1_pairs_4 : cX1_pairs.data.toList.drop 96 = dktX1_pairs_4 := dk_seg dksX1_pairs_3 24 rfl rfl
theorem dksX1_pairs_5 : cX1_pairs.data.toList.drop 120 = dktX1_pairs_5 := dk_seg dksX1_pairs_4 24 rfl rfl
theorem dksX1_pairs_6 : cX1_pairs.data.toList.drop 144 = dktX1_pairs_6 := dk_seg dksX1_pairs_5 24 rfl rfl
theorem dksX1_pairs_7 : cX1_pairs.data.toList.drop 168 = dktX1_pairs_7 := dk_seg dksX1_pairs_6 24 rfl rfl
theorem dX1_pairs_0 : decode cX1_pairs 0 = .ok (.iload_n 1, 1) := dk_27 (dk_at dksX1_pairs_0 0 rfl rfl)
theorem dX1_pairs_1 : decode cX1_pairs 1 = .ok (.iconst (-1), 1) := dk_2 (dk_at dksX1_pairs_0 1 rfl rfl)
theorem dX1_pairs_2 : decode cX1_pairs 2 = .ok (.if_icmp .eq 9, 3) := dk_159 0 9 (dk_at dksX1_pairs_0 2 rfl rfl)
theorem dX1_pairs_5 : decode cX1_pairs 5 = .ok (.aload_n 0, 1) := dk_42 (dk_at dksX1_pairs_0 5 rfl rfl)
theorem dX1_pairs_6 : decode cX1_pairs 6 = .ok (.iload_n 1, 1) := dk_27 (dk_at dksX1_pairs_0 6 rfl rfl)
theorem dX1_pairs_7 : decode cX1_pairs 7 = .ok (.invokevirtual 240, 3) := dk_182 0 240 (dk_at dksX1_pairs_0 7 rfl rfl)
theorem dX1_pairs_10 : decode cX1_pairs 10 = .ok (.pop, 1) := dk_87 (dk_at dksX1_pairs_0 10 rfl rfl)
theorem dX1_pairs_11 : decode cX1_pairs 11 = .ok (.aload_n 0, 1) := dk_42 (dk_at dksX1_pairs_0 11 rfl rfl)
theorem dX1_pairs_12 : decode cX1_pairs 12 = .ok (.invokevirtual 415, 3) := dk_182 1 159 (dk_at dksX1_pairs_0 12 rfl rfl)
theorem dX1_pairs_15 : decode cX1_pairs 15 = .ok (.iconst 1, 1) := dk_4 (dk_at dksX1_pairs_0 15 rfl rfl)
theorem dX1_pairs_16 : decode cX1_pairs 16 = .ok (.aload_n 0, 1) := dk_42 (dk_at dksX1_pairs_0 16 rfl rfl)
theorem dX1_pairs_17 : decode cX1_pairs 17 = .ok (.getfield 22, 3) := dk_180 0 22 (dk_at dksX1_pairs_0 17 rfl rfl)
theorem dX1_pairs_20 : decode cX1_pairs 20 = .ok (.getfield 101, 3) := dk_180 0 101 (dk_at dksX1_pairs_0 20 rfl rfl)
theorem dX1_pairs_23 : decode cX1_pairs 23 = .ok (.ishl, 1) := dk_120 (dk_at dksX1_pairs_0 23 rfl rfl)
theorem dX1_pairs_24 : decode cX1_pairs 24 = .ok (.iconst 1, 1) := dk_4 (dk_at dksX1_pairs_1 0 rfl rfl)
theorem dX1_pairs_25 : decode cX1_pairs 25 = .ok (.isub, 1) := dk_100 (dk_at dksX1_pairs_1 1 rfl rfl)
theorem dX1_pairs_26 : decode cX1_pairs 26 = .ok (.istore_n 2, 1) := dk_61 (dk_at dksX1_pairs_1 2 rfl rfl)
theorem dX1_pairs_27 : decode cX1_pairs 27 = .ok (.iload_n 1, 1) := dk_27 (dk_at dksX1_pairs_1 3 rfl rfl)
theorem dX1_pairs_28 : decode cX1_pairs 28 = .ok (.iconst (-1), 1) := dk_2 (dk_at dksX1_pairs_1 4 rfl rfl)
theorem dX1_pairs_29 : decode cX1_pairs 29 = .ok (.if_icmp .ne 10, 3) := dk_160 0 10 (dk_at dksX1_pairs_1 5 rfl rfl)
theorem dX1_pairs_32 : decode cX1_pairs 32 = .ok (.aload_n 0, 1) := dk_42 (dk_at dksX1_pairs_1 8 rfl rfl)
theorem dX1_pairs_33 : decode cX1_pairs 33 = .ok (.getfield 56, 3) := dk_180 0 56 (dk_at dksX1_pairs_1 9 rfl rfl)
theorem dX1_pairs_36 : decode cX1_pairs 36 = .ok (.iload_n 2, 1) := dk_28 (dk_at dksX1_pairs_1 12 rfl rfl)
theorem dX1_pairs_37 : decode cX1_pairs 37 = .ok (.iaload, 1) := dk_46 (dk_at dksX1_pairs_1 13 rfl rfl)
theorem dX1_pairs_38 : decode cX1_pairs 38 = .ok (.ireturn, 1) := dk_172 (dk_at dksX1_pairs_1 14 rfl rfl)
theorem dX1_pairs_39 : decode cX1_pairs 39 = .ok (.iload_n 2, 1) := dk_28 (dk_at dksX1_pairs_1 15 rfl rfl)
theorem dX1_pairs_40 : decode cX1_pairs 40 = .ok (.ifCond .eq 136, 3) := dk_153 0 136 (dk_at dksX1_pairs_1 16 rfl rfl)
theorem dX1_pairs_43 : decode cX1_pairs 43 = .ok (.iload_n 2, 1) := dk_28 (dk_at dksX1_pairs_1 19 rfl rfl)
theorem dX1_pairs_44 : decode cX1_pairs 44 = .ok (.invokestatic 409, 3) := dk_184 1 153 (dk_at dksX1_pairs_1 20 rfl rfl)
theorem dX1_pairs_47 : decode cX1_pairs 47 = .ok (.istore_n 3, 1) := dk_62 (dk_at dksX1_pairs_1 23 rfl rfl)
theorem dX1_pairs_48 : decode cX1_pairs 48 = .ok (.iconst (-1), 1) := dk_2 (dk_at dksX1_pairs_2 0 rfl rfl)
theorem dX1_pairs_49 : decode cX1_pairs 49 = .ok (.istore 4, 2) := dk_54 4 (dk_at dksX1_pairs_2 1 rfl rfl)
theorem dX1_pairs_51 : decode cX1_pairs 51 = .ok (.aload_n 0, 1) := dk_42 (dk_at dksX1_pairs_2 3 rfl rfl)
theorem dX1_pairs_52 : decode cX1_pairs 52 = .ok (.getfield 56, 3) := dk_180 0 56 (dk_at dksX1_pairs_2 4 rfl rfl)
theorem dX1_pairs_55 : decode cX1_pairs 55 = .ok (.iload_n 2, 1) := dk_28 (dk_at dksX1_pairs_2 7 rfl rfl)
theorem dX1_pairs_56 : decode cX1_pairs 56 = .ok (.iload_n 2, 1) := dk_28 (dk_at dksX1_pairs_2 8 rfl rfl)
theorem dX1_pairs_57 : decode cX1_pairs 57 = .ok (.iconst 1, 1) := dk_4 (dk_at dksX1_pairs_2 9 rfl rfl)
theorem dX1_pairs_58 : decode cX1_pairs 58 = .ok (.isub, 1) := dk_100 (dk_at dksX1_pairs_2 10 rfl rfl)
theorem dX1_pairs_59 : decode cX1_pairs 59 = .ok (.iand, 1) := dk_126 (dk_at dksX1_pairs_2 11 rfl rfl)
theorem dX1_pairs_60 : decode cX1_pairs 60 = .ok (.iaload, 1) := dk_46 (dk_at dksX1_pairs_2 12 rfl rfl)
theorem dX1_pairs_61 : decode cX1_pairs 61 = .ok (.aload_n 0, 1) := dk_42 (dk_at dksX1_pairs_2 13 rfl rfl)
theorem dX1_pairs_62 : decode cX1_pairs 62 = .ok (.getfield 56, 3) := dk_180 0 56 (dk_at dksX1_pairs_2 14 rfl rfl)
theorem dX1_pairs_65 : decode cX1_pairs 65 = .ok (.iload_n 2, 1) := dk_28 (dk_at dksX1_pairs_2 17 rfl rfl)
theorem dX1_pairs_66 : decode cX1_pairs 66 = .ok (.iaload, 1) := dk_46 (dk_at dksX1_pairs_2 18 rfl rfl)
theorem dX1_pairs_67 : decode cX1_pairs 67 = .ok (.if_icmp .eq 67, 3) := dk_159 0 67 (dk_at dksX1_pairs_2 19 rfl rfl)
theorem dX1_pairs_70 : decode cX1_pairs 70 = .ok (.iload_n 3, 1) := dk_29 (dk_at dksX1_pairs_2 22 rfl rfl)
theorem dX1_pairs_71 : decode cX1_pairs 71 = .ok (.iconst 1, 1) := dk_4 (dk_at dksX1_pairs_2 23 rfl rfl)
theorem dX1_pairs_72 : decode cX1_pairs 72 = .ok (.iadd, 1) := dk_96 (dk_at dksX1_pairs_3 0 rfl rfl)
theorem dX1_pairs_73 : decode cX1_pairs 73 = .ok (.istore 4, 2) := dk_54 4 (dk_at dksX1_pairs_3 1 rfl rfl)
theorem dX1_pairs_75 : decode cX1_pairs 75 = .ok (.iload_n 2, 1) := dk_28 (dk_at dksX1_pairs_3 3 rfl rfl)
theorem dX1_pairs_76 : decode cX1_pairs 76 = .ok (.iload 4, 2) := dk_21 4 (dk_at dksX1_pairs_3 4 rfl rfl)
theorem dX1_pairs_78 : decode cX1_pairs 78 = .ok (.ishr, 1) := dk_122 (dk_at dksX1_pairs_3 6 rfl rfl)
theorem dX1_pairs_79 : decode cX1_pairs 79 = .ok (.iconst 1, 1) := dk_4 (dk_at dksX1_pairs_3 7 rfl rfl)
theorem dX1_pairs_80 : decode cX1_pairs 80 = .ok (.iand, 1) := dk_126 (dk_at dksX1_pairs_3 8 rfl rfl)
theorem dX1_pairs_81 : decode cX1_pairs 81 = .ok (.ifCond .eq 47, 3) := dk_153 0 47 (dk_at dksX1_pairs_3 9 rfl rfl)
theorem dX1_pairs_84 : decode cX1_pairs 84 = .ok (.aload_n 0, 1) := dk_42 (dk_at dksX1_pairs_3 12 rfl rfl)
theorem dX1_pairs_85 : decode cX1_pairs 85 = .ok (.iload_n 3, 1) := dk_29 (dk_at dksX1_pairs_3 13 rfl rfl)
theorem dX1_pairs_86 : decode cX1_pairs 86 = .ok (.iload 4, 2) := dk_21 4 (dk_at dksX1_pairs_3 14 rfl rfl)
theorem dX1_pairs_88 : decode cX1_pairs 88 = .ok (.invokevirtual 385, 3) := dk_182 1 129 (dk_at dksX1_pairs_3 16 rfl rfl)
theorem dX1_pairs_91 : decode cX1_pairs 91 = .ok (.ifCond .ne 37, 3) := dk_154 0 37 (dk_at dksX1_pairs_3 19 rfl rfl)
theorem dX1_pairs_94 : decode cX1_pairs 94 = .ok (.aload_n 0, 1) := dk_42 (dk_at dksX1_pairs_3 22 rfl rfl)
theorem dX1_pairs_95 : decode cX1_pairs 95 = .ok (.iload_n 3, 1) := dk_29 (dk_at dksX1_pairs_3 23 rfl rfl)
theorem dX1_pairs_96 : decode cX1_pairs 96 = .ok (.iload 4, 2) := dk_21 4 (dk_at dksX1_pairs_4 0 rfl rfl)
theorem dX1_pairs_98 : decode cX1_pairs 98 = .ok (.invokevirtual 412, 3) := dk_182 1 156 (dk_at dksX1_pairs_4 2 rfl rfl)
theorem dX1_pairs_101 : decode cX1_pairs 101 = .ok (.aload_n 0, 1) := dk_42 (dk_at dksX1_pairs_4 5 rfl rfl)
theorem dX1_pairs_102 : decode cX1_pairs 102 = .ok (.getfield 56, 3) := dk_180 0 56 (dk_at dksX1_pairs_4 6 rfl rfl)
theorem dX1_pairs_105 : decode cX1_pairs 105 = .ok (.iload_n 2, 1) := dk_28 (dk_at dksX1_pairs_4 9 rfl rfl)
theorem dX1_pairs_106 : decode cX1_pairs 106 = .ok (.iconst 1, 1) := dk_4 (dk_at dksX1_pairs_4 10 rfl rfl)
theorem dX1_pairs_107 : decode cX1_pairs 107 = .ok (.iload_n 3, 1) := dk_29 (dk_at dksX1_pairs_4 11 rfl rfl)
theorem dX1_pairs_108 : decode cX1_pairs 108 = .ok (.ishl, 1) := dk_120 (dk_at dksX1_pairs_4 12 rfl rfl)
theorem dX1_pairs_109 : decode cX1_pairs 109 = .ok (.iconst 1, 1) := dk_4 (dk_at dksX1_pairs_4 13 rfl rfl)
theorem dX1_pairs_110 : decode cX1_pairs 110 = .ok (.iload 4, 2) := dk_21 4 (dk_at dksX1_pairs_4 14 rfl rfl)
theorem dX1_pairs_112 : decode cX1_pairs 112 = .ok (.ishl, 1) := dk_120 (dk_at dksX1_pairs_4 16 rfl rfl)
theorem dX1_pairs_113 : decode cX1_pairs 113 = .ok (.ior, 1) := dk_128 (dk_at dksX1_pairs_4 17 rfl rfl)
theorem dX1_pairs_114 : decode cX1_pairs 114 = .ok (.iconst (-1), 1) := dk_2 (dk_at dksX1_pairs_4 18 rfl rfl)
theorem dX1_pairs_115 : decode cX1_pairs 115 = .ok (.ixor, 1) := dk_130 (dk_at dksX1_pairs_4 19 rfl rfl)
theorem dX1_pairs_116 : decode cX1_pairs 116 = .ok (.iand, 1) := dk_126 (dk_at dksX1_pairs_4 20 rfl rfl)
theorem dX1_pairs_117 : decode cX1_pairs 117 = .ok (.iaload, 1) := dk_46 (dk_at dksX1_pairs_4 21 rfl rfl)
theorem dX1_pairs_118 : decode cX1_pairs 118 = .ok (.iadd, 1) := dk_96 (dk_at dksX1_pairs_4 22 rfl rfl)
theorem dX1_pairs_119 : decode cX1_pairs 119 = .ok (.aload_n 0, 1) := dk_42 (dk_at dksX1_pairs_4 23 rfl rfl)
theorem dX1_pairs_120 : decode cX1_pairs 120 = .ok (.getfield 56, 3) := dk_180 0 56 (dk_at dksX1_pairs_5 0 rfl rfl)
theorem dX1_pairs_123 : decode cX1_pairs 123 = .ok (.iload_n 2, 1) := dk_28 (dk_at dksX1_pairs_5 3 rfl rfl)
theorem dX1_pairs_124 : decode cX1_pairs 124 = .ok (.iaload, 1) := dk_46 (dk_at dksX1_pairs_5 4 rfl rfl)
theorem dX1_pairs_125 : decode cX1_pairs 125 = .ok (.if_icmp .eq 9, 3) := dk_159 0 9 (dk_at dksX1_pairs_5 5 rfl rfl)
theorem dX1_pairs_128 : decode cX1_pairs 128 = .ok (.iinc 4 1, 3) := dk_132 4 1 (dk_at dksX1_pairs_5 8 rfl rfl)
theorem dX1_pairs_131 : decode cX1_pairs 131 = .ok (.goto (-56), 3) := dk_167 255 200 (dk_at dksX1_pairs_5 11 rfl rfl)
theorem dX1_pairs_134 : decode cX1_pairs 134 = .ok (.iload_n 3, 1) := dk_29 (dk_at dksX1_pairs_5 14 rfl rfl)
theorem dX1_pairs_135 : decode cX1_pairs 135 = .ok (.iload_n 1, 1) := dk_27 (dk_at dksX1_pairs_5 15 rfl rfl)
theorem dX1_pairs_136 : decode cX1_pairs 136 = .ok (.if_icmp .ne 6, 3) := dk_160 0 6 (dk_at dksX1_pairs_5 16 rfl rfl)
theorem dX1_pairs_139 : decode cX1_pairs 139 = .ok (.iload 4, 2) := dk_21 4 (dk_at dksX1_pairs_5 19 rfl rfl)
theorem dX1_pairs_141 : decode cX1_pairs 141 = .ok (.ireturn, 1) := dk_172 (dk_at dksX1_pairs_5 21 rfl rfl)
theorem dX1_pairs_142 : decode cX1_pairs 142 = .ok (.iload 4, 2) := dk_21 4 (dk_at dksX1_pairs_5 22 rfl rfl)
theorem dX1_pairs_144 : decode cX1_pairs 144 = .ok (.iload_n 1, 1) := dk_27 (dk_at dksX1_pairs_6 0 rfl rfl)
theorem dX1_pairs_145 : decode cX1_pairs 145 = .ok (.if_icmp .ne 5, 3) := dk_160 0 5 (dk_at dksX1_pairs_6 1 rfl rfl)
theorem dX1_pairs_148 : decode cX1_pairs 148 = .ok (.iload_n 3, 1) := dk_29 (dk_at dksX1_pairs_6 4 rfl rfl)
theorem dX1_pairs_149 : decode cX1_pairs 149 = .ok (.ireturn, 1) := dk_172 (dk_at dksX1_pairs_6 5 rfl rfl)
theorem dX1_pairs_150 : decode cX1_pairs 150 = .ok (.iload_n 2, 1) := dk_28 (dk_at dksX1_pairs_6 6 rfl rfl)
theorem dX1_pairs_151 : decode cX1_pairs 151 = .ok (.iconst 1, 1) := dk_4 (dk_at dksX1_pairs_6 7 rfl rfl)
theorem dX1_pairs_152 : decode cX1_pairs 152 = .ok (.iload_n 3, 1) := dk_29 (dk_at dksX1_pairs_6 8 rfl rfl)
theorem dX1_pairs_153 : decode cX1_pairs 153 = .ok (.ishl, 1) := dk_120 (dk_at dksX1_pairs_6 9 rfl rfl)
theorem dX1_pairs_154 : decode cX1_pairs 154 = .ok (.iconst (-1), 1) := dk_2 (dk_at dksX1_pairs_6 10 rfl rfl)
theorem dX1_pairs_155 : decode cX1_pairs 155 = .ok (.ixor, 1) := dk_130 (dk_at dksX1_pairs_6 11 rfl rfl)
theorem dX1_pairs_156 : decode cX1_pairs 156 = .ok (.iand, 1) := dk_126 (dk_at dksX1_pairs_6 12 rfl rfl)
theorem dX1_pairs_157 : decode cX1_pairs 157 = .ok (.istore_n 2, 1) := dk_61 (dk_at dksX1_pairs_6 13 rfl rfl)
theorem dX1_pairs_158 : decode cX1_pairs 158 = .ok (.iload 4, 2) := dk_21 4 (dk_at dksX1_pairs_6 14 rfl rfl)
theorem dX1_pairs_160 : decode cX1_pairs 160 = .ok (.iconst (-1), 1) := dk_2 (dk_at dksX1_pairs_6 16 rfl rfl)
theorem dX1_pairs_161 : decode cX1_pairs 161 = .ok (.if_icmp .eq 12, 3) := dk_159 0 12 (dk_at dksX1_pairs_6 17 rfl rfl)
theorem dX1_pairs_164 : decode cX1_pairs 164 = .ok (.iload_n 2, 1) := dk_28 (dk_at dksX1_pairs_6 20 rfl rfl)
theorem dX1_pairs_165 : decode cX1_pairs 165 = .ok (.iconst 1, 1) := dk_4 (dk_at dksX1_pairs_6 21 rfl rfl)
theorem dX1_pairs_166 : decode cX1_pairs 166 = .ok (.iload 4, 2) := dk_21 4 (dk_at dksX1_pairs_6 22 rfl rfl)
theorem dX1_pairs_168 : decode cX1_pairs 168 = .ok (.ishl, 1) := dk_120 (dk_at dksX1_pairs_7 0 rfl rfl)
theorem dX1_pairs_169 : decode cX1_pairs 169 = .ok (.iconst (-1), 1) := dk_2 (dk_at dksX1_pairs_7 1 rfl rfl)
theorem dX1_pairs_170 : decode cX1_pairs 170 = .ok (.ixor, 1) := dk_130 (dk_at dksX1_pairs_7 2 rfl rfl)
theorem dX1_pairs_171 : decode cX1_pairs 171 = .ok (.iand, 1) := dk_126 (dk_at dksX1_pairs_7 3 rfl rfl)
theorem dX1_pairs_172 : decode cX1_pairs 172 = .ok (.istore_n 2, 1) := dk_61 (dk_at dksX1_pairs_7 4 rfl rfl)
theorem dX1_pairs_173 : decode cX1_pairs 173 = .ok (.goto (-134), 3) := dk_167 255 122 (dk_at dksX1_pairs_7 5 rfl rfl)
theorem dX1_pairs_176 : decode cX1_pairs 176 = .ok (.iconst (-1), 1) := dk_2 (dk_at dksX1_pairs_7 8 rfl rfl)
theorem dX1_pairs_177 : decode cX1_pairs 177 = .ok (.ireturn, 1) := dk_172 (dk_at dksX1_pairs_7 9 rfl rfl)
abbrev cX1_allBest : ByteArray := prog_1_method_75_code
def yX1_allBest : MethodName := ⟨RX1, "allBest", "()V"⟩
def dkwX1_allBest_5 : List UInt8 := [167, 255, 186, 132, 1, 1, 167, 255, 142, 177]
abbrev dktX1_allBest_5 : List UInt8 := dkwX1_allBest_5 ++ []
def dkwX1_allBest_4 : List UInt8 := [180, 0, 56, 27, 4, 28, 120, 4, 29, 120, 128, 2, 130, 126, 46, 96, 184, 1, 79, 79, 132, 3, 1]
abbrev dktX1_allBest_4 : List UInt8 := dkwX1_allBest_4 ++ dktX1_allBest_5
def dkwX1_allBest_3 : List UInt8 := [182, 1, 129, 154, 0, 41, 42, 180, 0, 56, 27, 42, 180, 0, 56, 27, 46, 42, 28, 29, 182, 1, 156, 42]
abbrev dktX1_allBest_3 : List UInt8 := dkwX1_allBest_3 ++ dktX1_allBest_4
def dkwX1_allBest_2 : List UInt8 := [29, 42, 180, 0, 22, 180, 0, 101, 162, 0, 65, 27, 29, 122, 4, 126, 4, 160, 0, 50, 42, 28, 29]
abbrev dktX1_allBest_2 : List UInt8 := dkwX1_allBest_2 ++ dktX1_allBest_3
def dkwX1_allBest_1 : List UInt8 := [184, 1, 153, 61, 42, 180, 0, 56, 27, 42, 180, 0, 56, 27, 27, 4, 100, 126, 46, 79, 28, 4, 96, 62]
abbrev dktX1_allBest_1 : List UInt8 := dkwX1_allBest_1 ++ dktX1_allBest_2
def dkwX1_allBest_0 : List UInt8 := [42, 180, 0, 56, 3, 3, 79, 4, 60, 27, 4, 42, 180, 0, 22, 180, 0, 101, 120, 162, 0, 107, 27]
abbrev dktX1_allBest_0 : List UInt8 := dkwX1_allBest_0 ++ dktX1_allBest_1
theorem dksX1_allBest_0 : cX1_allBest.data.toList.drop 0 = dktX1_allBest_0 := by decide +kernel
theorem dksX1_allBest_1 : cX1_allBest.data.toList.drop 23 = dktX1_allBest_1 := dk_seg dksX1_allBest_0 23 rfl rfl
theorem dksX1_allBest_2 : cX1_allBest.data.toList.drop 47 = dktX1_allBest_2 := dk_seg dksX1_allBest_1 24 rfl rfl
theorem dksX1_allBest_3 : cX1_allBest.data.toList.drop 70 = dktX1_allBest_3 := dk_seg dksX1_allBest_2 23 rfl rfl
theorem dksX1_allBest_4 : cX1_allBest.data.toList.drop 94 = dktX1_allBest_4 := dk_seg dksX1_allBest_3 24 rfl rfl
theorem dksX1_allBest_5 : cX1_allBest.data.toList.drop 117 = dktX1_allBest_5 := dk_seg dksX1_allBest_4 23 rfl rfl
theorem dX1_allBest_0 : decode cX1_allBest 0 = .ok (.aload_n 0, 1) := dk_42 (dk_at dksX1_allBest_0 0 rfl rfl)
theorem dX1_allBest_1 : decode cX1_allBest 1 = .ok (.getfield 56, 3) := dk_180 0 56 (dk_at dksX1_allBest_0 1 rfl rfl)
theorem dX1_allBest_4 : decode cX1_allBest 4 = .ok (.iconst 0, 1) := dk_3 (dk_at dksX1_allBest_0 4 rfl rfl)
theorem dX1_allBest_5 : decode cX1_allBest 5 = .ok (.iconst 0, 1) := dk_3 (dk_at dksX1_allBest_0 5 rfl rfl)
theorem dX1_allBest_6 : decode cX1_allBest 6 = .ok (.iastore, 1) := dk_79 (dk_at dksX1_allBest_0 6 rfl rfl)
theorem dX1_allBest_7 : decode cX1_allBest 7 = .ok (.iconst 1, 1) := dk_4 (dk_at dksX1_allBest_0 7 rfl rfl)
theorem dX1_allBest_8 : decode cX1_allBest 8 = .ok (.istore_n 1, 1) := dk_60 (dk_at dksX1_allBest_0 8 rfl rfl)
theorem dX1_allBest_9 : decode cX1_allBest 9 = .ok (.iload_n 1, 1) := dk_27 (dk_at dksX1_allBest_0 9 rfl rfl)
theorem dX1_allBest_10 : decode cX1_allBest 10 = .ok (.iconst 1, 1) := dk_4 (dk_at dksX1_allBest_0 10 rfl rfl)
theorem dX1_allBest_11 : decode cX1_allBest 11 = .ok (.aload_n 0, 1) := dk_42 (dk_at dksX1_allBest_0 11 rfl rfl)
theorem dX1_allBest_12 : decode cX1_allBest 12 = .ok (.getfield 22, 3) := dk_180 0 22 (dk_at dksX1_allBest_0 12 rfl rfl)
theorem dX1_allBest_15 : decode cX1_allBest 15 = .ok (.getfield 101, 3) := dk_180 0 101 (dk_at dksX1_allBest_0 15 rfl rfl)
theorem dX1_allBest_18 : decode cX1_allBest 18 = .ok (.ishl, 1) := dk_120 (dk_at dksX1_allBest_0 18 rfl rfl)
theorem dX1_allBest_19 : decode cX1_allBest 19 = .ok (.if_icmp .ge 107, 3) := dk_162 0 107 (dk_at dksX1_allBest_0 19 rfl rfl)
theorem dX1_allBest_22 : decode cX1_allBest 22 = .ok (.iload_n 1, 1) := dk_27 (dk_at dksX1_allBest_0 22 rfl rfl)
theorem dX1_allBest_23 : decode cX1_allBest 23 = .ok (.invokestatic 409, 3) := dk_184 1 153 (dk_at dksX1_allBest_1 0 rfl rfl)
theorem dX1_allBest_26 : decode cX1_allBest 26 = .ok (.istore_n 2, 1) := dk_61 (dk_at dksX1_allBest_1 3 rfl rfl)
theorem dX1_allBest_27 : decode cX1_allBest 27 = .ok (.aload_n 0, 1) := dk_42 (dk_at dksX1_allBest_1 4 rfl rfl)
theorem dX1_allBest_28 : decode cX1_allBest 28 = .ok (.getfield 56, 3) := dk_180 0 56 (dk_at dksX1_allBest_1 5 rfl rfl)
theorem dX1_allBest_31 : decode cX1_allBest 31 = .ok (.iload_n 1, 1) := dk_27 (dk_at dksX1_allBest_1 8 rfl rfl)
theorem dX1_allBest_32 : decode cX1_allBest 32 = .ok (.aload_n 0, 1) := dk_42 (dk_at dksX1_allBest_1 9 rfl rfl)
theorem dX1_allBest_33 : decode cX1_allBest 33 = .ok (.getfield 56, 3) := dk_180 0 56 (dk_at dksX1_allBest_1 10 rfl rfl)
theorem dX1_allBest_36 : decode cX1_allBest 36 = .ok (.iload_n 1, 1) := dk_27 (dk_at dksX1_allBest_1 13 rfl rfl)
theorem dX1_allBest_37 : decode cX1_allBest 37 = .ok (.iload_n 1, 1) := dk_27 (dk_at dksX1_allBest_1 14 rfl rfl)
theorem dX1_allBest_38 : decode cX1_allBest 38 = .ok (.iconst 1, 1) := dk_4 (dk_at dksX1_allBest_1 15 rfl rfl)
theorem dX1_allBest_39 : decode cX1_allBest 39 = .ok (.isub, 1) := dk_100 (dk_at dksX1_allBest_1 16 rfl rfl)
theorem dX1_allBest_40 : decode cX1_allBest 40 = .ok (.iand, 1) := dk_126 (dk_at dksX1_allBest_1 17 rfl rfl)
theorem dX1_allBest_41 : decode cX1_allBest 41 = .ok (.iaload, 1) := dk_46 (dk_at dksX1_allBest_1 18 rfl rfl)
theorem dX1_allBest_42 : decode cX1_allBest 42 = .ok (.iastore, 1) := dk_79 (dk_at dksX1_allBest_1 19 rfl rfl)
theorem dX1_allBest_43 : decode cX1_allBest 43 = .ok (.iload_n 2, 1) := dk_28 (dk_at dksX1_allBest_1 20 rfl rfl)
theorem dX1_allBest_44 : decode cX1_allBest 44 = .ok (.iconst 1, 1) := dk_4 (dk_at dksX1_allBest_1 21 rfl rfl)
theorem dX1_allBest_45 : decode cX1_allBest 45 = .ok (.iadd, 1) := dk_96 (dk_at dksX1_allBest_1 22 rfl rfl)
theorem dX1_allBest_46 : decode cX1_allBest 46 = .ok (.istore_n 3, 1) := dk_62 (dk_at dksX1_allBest_1 23 rfl rfl)
theorem dX1_allBest_47 : decode cX1_allBest 47 = .ok (.iload_n 3, 1) := dk_29 (dk_at dksX1_allBest_2 0 rfl rfl)
theorem dX1_allBest_48 : decode cX1_allBest 48 = .ok (.aload_n 0, 1) := dk_42 (dk_at dksX1_allBest_2 1 rfl rfl)
theorem dX1_allBest_49 : decode cX1_allBest 49 = .ok (.getfield 22, 3) := dk_180 0 22 (dk_at dksX1_allBest_2 2 rfl rfl)
theorem dX1_allBest_52 : decode cX1_allBest 52 = .ok (.getfield 101, 3) := dk_180 0 101 (dk_at dksX1_allBest_2 5 rfl rfl)
theorem dX1_allBest_55 : decode cX1_allBest 55 = .ok (.if_icmp .ge 65, 3) := dk_162 0 65 (dk_at dksX1_allBest_2 8 rfl rfl)
theorem dX1_allBest_58 : decode cX1_allBest 58 = .ok (.iload_n 1, 1) := dk_27 (dk_at dksX1_allBest_2 11 rfl rfl)
theorem dX1_allBest_59 : decode cX1_allBest 59 = .ok (.iload_n 3, 1) := dk_29 (dk_at dksX1_allBest_2 12 rfl rfl)
theorem dX1_allBest_60 : decode cX1_allBest 60 = .ok (.ishr, 1) := dk_122 (dk_at dksX1_allBest_2 13 rfl rfl)
theorem dX1_allBest_61 : decode cX1_allBest 61 = .ok (.iconst 1, 1) := dk_4 (dk_at dksX1_allBest_2 14 rfl rfl)
theorem dX1_allBest_62 : decode cX1_allBest 62 = .ok (.iand, 1) := dk_126 (dk_at dksX1_allBest_2 15 rfl rfl)
theorem dX1_allBest_63 : decode cX1_allBest 63 = .ok (.iconst 1, 1) := dk_4 (dk_at dksX1_allBest_2 16 rfl rfl)
theorem dX1_allBest_64 : decode cX1_allBest 64 = .ok (.if_icmp .ne 50, 3) := dk_160 0 50 (dk_at dksX1_allBest_2 17 rfl rfl)
theorem dX1_allBest_67 : decode cX1_allBest 67 = .ok (.aload_n 0, 1) := dk_42 (dk_at dksX1_allBest_2 20 rfl rfl)
theorem dX1_allBest_68 : decode cX1_allBest 68 = .ok (.iload_n 2, 1) := dk_28 (dk_at dksX1_allBest_2 21 rfl rfl)
theorem dX1_allBest_69 : decode cX1_allBest 69 = .ok (.iload_n 3, 1) := dk_29 (dk_at dksX1_allBest_2 22 rfl rfl)
theorem dX1_allBest_70 : decode cX1_allBest 70 = .ok (.invokevirtual 385, 3) := dk_182 1 129 (dk_at dksX1_allBest_3 0 rfl rfl)
theorem dX1_allBest_73 : decode cX1_allBest 73 = .ok (.ifCond .ne 41, 3) := dk_154 0 41 (dk_at dksX1_allBest_3 3 rfl rfl)
theorem dX1_allBest_76 : decode cX1_allBest 76 = .ok (.aload_n 0, 1) := dk_42 (dk_at dksX1_allBest_3 6 rfl rfl)
theorem dX1_allBest_77 : decode cX1_allBest 77 = .ok (.getfield 56, 3) := dk_180 0 56 (dk_at dksX1_allBest_3 7 rfl rfl)
theorem dX1_allBest_80 : decode cX1_allBest 80 = .ok (.iload_n 1, 1) := dk_27 (dk_at dksX1_allBest_3 10 rfl rfl)
theorem dX1_allBest_81 : decode cX1_allBest 81 = .ok (.aload_n 0, 1) := dk_42 (dk_at dksX1_allBest_3 11 rfl rfl)
theorem dX1_allBest_82 : decode cX1_allBest 82 = .ok (.getfield 56, 3) := dk_180 0 56 (dk_at dksX1_allBest_3 12 rfl rfl)
theorem dX1_allBest_85 : decode cX1_allBest 85 = .ok (.iload_n 1, 1) := dk_27 (dk_at dksX1_allBest_3 15 rfl rfl)
theorem dX1_allBest_86 : decode cX1_allBest 86 = .ok (.iaload, 1) := dk_46 (dk_at dksX1_allBest_3 16 rfl rfl)
theorem dX1_allBest_87 : decode cX1_allBest 87 = .ok (.aload_n 0, 1) := dk_42 (dk_at dksX1_allBest_3 17 rfl rfl)
theorem dX1_allBest_88 : decode cX1_allBest 88 = .ok (.iload_n 2, 1) := dk_28 (dk_at dksX1_allBest_3 18 rfl rfl)
theorem dX1_allBest_89 : decode cX1_allBest 89 = .ok (.iload_n 3, 1) := dk_29 (dk_at dksX1_allBest_3 19 rfl rfl)
theorem dX1_allBest_90 : decode cX1_allBest 90 = .ok (.invokevirtual 412, 3) := dk_182 1 156 (dk_at dksX1_allBest_3 20 rfl rfl)
theorem dX1_allBest_93 : decode cX1_allBest 93 = .ok (.aload_n 0, 1) := dk_42 (dk_at dksX1_allBest_3 23 rfl rfl)
theorem dX1_allBest_94 : decode cX1_allBest 94 = .ok (.getfield 56, 3) := dk_180 0 56 (dk_at dksX1_allBest_4 0 rfl rfl)
theorem dX1_allBest_97 : decode cX1_allBest 97 = .ok (.iload_n 1, 1) := dk_27 (dk_at dksX1_allBest_4 3 rfl rfl)
theorem dX1_allBest_98 : decode cX1_allBest 98 = .ok (.iconst 1, 1) := dk_4 (dk_at dksX1_allBest_4 4 rfl rfl)
theorem dX1_allBest_99 : decode cX1_allBest 99 = .ok (.iload_n 2, 1) := dk_28 (dk_at dksX1_allBest_4 5 rfl rfl)
theorem dX1_allBest_100 : decode cX1_allBest 100 = .ok (.ishl, 1) := dk_120 (dk_at dksX1_allBest_4 6 rfl rfl)
theorem dX1_allBest_101 : decode cX1_allBest 101 = .ok (.iconst 1, 1) := dk_4 (dk_at dksX1_allBest_4 7 rfl rfl)
theorem dX1_allBest_102 : decode cX1_allBest 102 = .ok (.iload_n 3, 1) := dk_29 (dk_at dksX1_allBest_4 8 rfl rfl)
theorem dX1_allBest_103 : decode cX1_allBest 103 = .ok (.ishl, 1) := dk_120 (dk_at dksX1_allBest_4 9 rfl rfl)
theorem dX1_allBest_104 : decode cX1_allBest 104 = .ok (.ior, 1) := dk_128 (dk_at dksX1_allBest_4 10 rfl rfl)
theorem dX1_allBest_105 : decode cX1_allBest 105 = .ok (.iconst (-1), 1) := dk_2 (dk_at dksX1_allBest_4 11 rfl rfl)
theorem dX1_allBest_106 : decode cX1_allBest 106 = .ok (.ixor, 1) := dk_130 (dk_at dksX1_allBest_4 12 rfl rfl)
theorem dX1_allBest_107 : decode cX1_allBest 107 = .ok (.iand, 1) := dk_126 (dk_at dksX1_allBest_4 13 rfl rfl)
theorem dX1_allBest_108 : decode cX1_allBest 108 = .ok (.iaload, 1) := dk_46 (dk_at dksX1_allBest_4 14 rfl rfl)
theorem dX1_allBest_109 : decode cX1_allBest 109 = .ok (.iadd, 1) := dk_96 (dk_at dksX1_allBest_4 15 rfl rfl)
theorem dX1_allBest_110 : decode cX1_allBest 110 = .ok (.invokestatic 335, 3) := dk_184 1 79 (dk_at dksX1_allBest_4 16 rfl rfl)
theorem dX1_allBest_113 : decode cX1_allBest 113 = .ok (.iastore, 1) := dk_79 (dk_at dksX1_allBest_4 19 rfl rfl)
theorem dX1_allBest_114 : decode cX1_allBest 114 = .ok (.iinc 3 1, 3) := dk_132 3 1 (dk_at dksX1_allBest_4 20 rfl rfl)
theorem dX1_allBest_117 : decode cX1_allBest 117 = .ok (.goto (-70), 3) := dk_167 255 186 (dk_at dksX1_allBest_5 0 rfl rfl)
theorem dX1_allBest_120 : decode cX1_allBest 120 = .ok (.iinc 1 1, 3) := dk_132 1 1 (dk_at dksX1_allBest_5 3 rfl rfl)
theorem dX1_allBest_123 : decode cX1_allBest 123 = .ok (.goto (-114), 3) := dk_167 255 142 (dk_at dksX1_allBest_5 6 rfl rfl)
theorem dX1_allBest_126 : decode cX1_allBest 126 = .ok (.return_, 1) := dk_177 (dk_at dksX1_allBest_5 9 rfl rfl)
abbrev cX1_sizes : ByteArray := prog_1_method_74_code
def yX1_sizes : MethodName := ⟨RX1, "sizes", "(II)I"⟩
def dkwX1_sizes_1 : List UInt8 := [96, 172]
abbrev dktX1_sizes_1 : List UInt8 := dkwX1_sizes_1 ++ []
def dkwX1_sizes_0 : List UInt8 := [42, 180, 0, 22, 180, 0, 112, 27, 50, 180, 0, 252, 42, 180, 0, 22, 180, 0, 112, 28, 50, 180, 0, 252]
abbrev dktX1_sizes_0 : List UInt8 := dkwX1_sizes_0 ++ dktX1_sizes_1
theorem dksX1_sizes_0 : cX1_sizes.data.toList.drop 0 = dktX1_sizes_0 := by decide +kernel
theorem dksX1_sizes_1 : cX1_sizes.data.toList.drop 24 = dktX1_sizes_1 := dk_seg dksX1_sizes_0 24 rfl rfl
theorem dX1_sizes_0 : decode cX1_sizes 0 = .ok (.aload_n 0, 1) := dk_42 (dk_at dksX1_sizes_0 0 rfl rfl)
theorem dX1_sizes_1 : decode cX1_sizes 1 = .ok (.getfield 22, 3) := dk_180 0 22 (dk_at dksX1_sizes_0 1 rfl rfl)
theorem dX1_sizes_4 : decode cX1_sizes 4 = .ok (.getfield 112, 3) := dk_180 0 112 (dk_at dksX1_sizes_0 4 rfl rfl)
theorem dX1_sizes_7 : decode cX1_sizes 7 = .ok (.iload_n 1, 1) := dk_27 (dk_at dksX1_sizes_0 7 rfl rfl)
theorem dX1_sizes_8 : decode cX1_sizes 8 = .ok (.aaload, 1) := dk_50 (dk_at dksX1_sizes_0 8 rfl rfl)
theorem dX1_sizes_9 : decode cX1_sizes 9 = .ok (.getfield 252, 3) := dk_180 0 252 (dk_at dksX1_sizes_0 9 rfl rfl)
theorem dX1_sizes_12 : decode cX1_sizes 12 = .ok (.aload_n 0, 1) := dk_42 (dk_at dksX1_sizes_0 12 rfl rfl)
theorem dX1_sizes_13 : decode cX1_sizes 13 = .ok (.getfield 22, 3) := dk_180 0 22 (dk_at dksX1_sizes_0 13 rfl rfl)
theorem dX1_sizes_16 : decode cX1_sizes 16 = .ok (.getfield 112, 3) := dk_180 0 112 (dk_at dksX1_sizes_0 16 rfl rfl)
theorem dX1_sizes_19 : decode cX1_sizes 19 = .ok (.iload_n 2, 1) := dk_28 (dk_at dksX1_sizes_0 19 rfl rfl)
theorem dX1_sizes_20 : decode cX1_sizes 20 = .ok (.aaload, 1) := dk_50 (dk_at dksX1_sizes_0 20 rfl rfl)
theorem dX1_sizes_21 : decode cX1_sizes 21 = .ok (.getfield 252, 3) := dk_180 0 252 (dk_at dksX1_sizes_0 21 rfl rfl)
theorem dX1_sizes_24 : decode cX1_sizes 24 = .ok (.iadd, 1) := dk_96 (dk_at dksX1_sizes_1 0 rfl rfl)
theorem dX1_sizes_25 : decode cX1_sizes 25 = .ok (.ireturn, 1) := dk_172 (dk_at dksX1_sizes_1 1 rfl rfl)
abbrev cX1_rests : ByteArray := prog_1_method_79_code
def yX1_rests : MethodName := ⟨RX1, "rests", "(I)I"⟩
def dkwX1_rests_3 : List UInt8 := [163, 0, 9, 4, 29, 120, 167, 0, 4, 3, 128, 61, 132, 3, 1, 167, 255, 182, 28, 172]
abbrev dktX1_rests_3 : List UInt8 := dkwX1_rests_3 ++ []
def dkwX1_rests_2 : List UInt8 := [163, 0, 32, 42, 27, 21, 4, 4, 21, 5, 100, 182, 1, 165, 42, 27, 21, 4, 21, 5, 182, 1, 165]
abbrev dktX1_rests_2 : List UInt8 := dkwX1_rests_2 ++ dktX1_rests_3
def dkwX1_rests_1 : List UInt8 := [54, 5, 28, 42, 27, 4, 21, 4, 100, 21, 5, 182, 1, 162, 42, 27, 21, 4, 21, 5, 182, 1, 162]
abbrev dktX1_rests_1 : List UInt8 := dkwX1_rests_1 ++ dktX1_rests_2
def dkwX1_rests_0 : List UInt8 := [42, 27, 182, 0, 240, 87, 3, 61, 3, 62, 29, 7, 162, 0, 75, 29, 5, 108, 54, 4, 29, 5, 112]
abbrev dktX1_rests_0 : List UInt8 := dkwX1_rests_0 ++ dktX1_rests_1
theorem dksX1_rests_0 : cX1_rests.data.toList.drop 0 = dktX1_rests_0 := by decide +kernel
theorem dksX1_rests_1 : cX1_rests.data.toList.drop 23 = dktX1_rests_1 := dk_seg dksX1_rests_0 23 rfl rfl
theorem dksX1_rests_2 : cX1_rests.data.toList.drop 46 = dktX1_rests_2 := dk_seg dksX1_rests_1 23 rfl rfl
theorem dksX1_rests_3 : cX1_rests.data.toList.drop 69 = dktX1_rests_3 := dk_seg dksX1_rests_2 23 rfl rfl
theorem dX1_rests_0 : decode cX1_rests 0 = .ok (.aload_n 0, 1) := dk_42 (dk_at dksX1_rests_0 0 rfl rfl)
theorem dX1_rests_1 : decode cX1_rests 1 = .ok (.iload_n 1, 1) := dk_27 (dk_at dksX1_rests_0 1 rfl rfl)
theorem dX1_rests_2 : decode cX1_rests 2 = .ok (.invokevirtual 240, 3) := dk_182 0 240 (dk_at dksX1_rests_0 2 rfl rfl)
theorem dX1_rests_5 : decode cX1_rests 5 = .ok (.pop, 1) := dk_87 (dk_at dksX1_rests_0 5 rfl rfl)
theorem dX1_rests_6 : decode cX1_rests 6 = .ok (.iconst 0, 1) := dk_3 (dk_at dksX1_rests_0 6 rfl rfl)
theorem dX1_rests_7 : decode cX1_rests 7 = .ok (.istore_n 2, 1) := dk_61 (dk_at dksX1_rests_0 7 rfl rfl)
theorem dX1_rests_8 : decode cX1_rests 8 = .ok (.iconst 0, 1) := dk_3 (dk_at dksX1_rests_0 8 rfl rfl)
theorem dX1_rests_9 : decode cX1_rests 9 = .ok (.istore_n 3, 1) := dk_62 (dk_at dksX1_rests_0 9 rfl rfl)
theorem dX1_rests_10 : decode cX1_rests 10 = .ok (.iload_n 3, 1) := dk_29 (dk_at dksX1_rests_0 10 rfl rfl)
theorem dX1_rests_11 : decode cX1_rests 11 = .ok (.iconst 4, 1) := dk_7 (dk_at dksX1_rests_0 11 rfl rfl)
theorem dX1_rests_12 : decode cX1_rests 12 = .ok (.if_icmp .ge 75, 3) := dk_162 0 75 (dk_at dksX1_rests_0 12 rfl rfl)
theorem dX1_rests_15 : decode cX1_rests 15 = .ok (.iload_n 3, 1) := dk_29 (dk_at dksX1_rests_0 15 rfl rfl)
theorem dX1_rests_16 : decode cX1_rests 16 = .ok (.iconst 2, 1) := dk_5 (dk_at dksX1_rests_0 16 rfl rfl)
theorem dX1_rests_17 : decode cX1_rests 17 = .ok (.idiv, 1) := dk_108 (dk_at dksX1_rests_0 17 rfl rfl)
theorem dX1_rests_18 : decode cX1_rests 18 = .ok (.istore 4, 2) := dk_54 4 (dk_at dksX1_rests_0 18 rfl rfl)
theorem dX1_rests_20 : decode cX1_rests 20 = .ok (.iload_n 3, 1) := dk_29 (dk_at dksX1_rests_0 20 rfl rfl)
theorem dX1_rests_21 : decode cX1_rests 21 = .ok (.iconst 2, 1) := dk_5 (dk_at dksX1_rests_0 21 rfl rfl)
theorem dX1_rests_22 : decode cX1_rests 22 = .ok (.irem, 1) := dk_112 (dk_at dksX1_rests_0 22 rfl rfl)
theorem dX1_rests_23 : decode cX1_rests 23 = .ok (.istore 5, 2) := dk_54 5 (dk_at dksX1_rests_1 0 rfl rfl)
theorem dX1_rests_25 : decode cX1_rests 25 = .ok (.iload_n 2, 1) := dk_28 (dk_at dksX1_rests_1 2 rfl rfl)
theorem dX1_rests_26 : decode cX1_rests 26 = .ok (.aload_n 0, 1) := dk_42 (dk_at dksX1_rests_1 3 rfl rfl)
theorem dX1_rests_27 : decode cX1_rests 27 = .ok (.iload_n 1, 1) := dk_27 (dk_at dksX1_rests_1 4 rfl rfl)
theorem dX1_rests_28 : decode cX1_rests 28 = .ok (.iconst 1, 1) := dk_4 (dk_at dksX1_rests_1 5 rfl rfl)
theorem dX1_rests_29 : decode cX1_rests 29 = .ok (.iload 4, 2) := dk_21 4 (dk_at dksX1_rests_1 6 rfl rfl)
theorem dX1_rests_31 : decode cX1_rests 31 = .ok (.isub, 1) := dk_100 (dk_at dksX1_rests_1 8 rfl rfl)
theorem dX1_rests_32 : decode cX1_rests 32 = .ok (.iload 5, 2) := dk_21 5 (dk_at dksX1_rests_1 9 rfl rfl)
theorem dX1_rests_34 : decode cX1_rests 34 = .ok (.invokevirtual 418, 3) := dk_182 1 162 (dk_at dksX1_rests_1 11 rfl rfl)
theorem dX1_rests_37 : decode cX1_rests 37 = .ok (.aload_n 0, 1) := dk_42 (dk_at dksX1_rests_1 14 rfl rfl)
theorem dX1_rests_38 : decode cX1_rests 38 = .ok (.iload_n 1, 1) := dk_27 (dk_at dksX1_rests_1 15 rfl rfl)
theorem dX1_rests_39 : decode cX1_rests 39 = .ok (.iload 4, 2) := dk_21 4 (dk_at dksX1_rests_1 16 rfl rfl)
theorem dX1_rests_41 : decode cX1_rests 41 = .ok (.iload 5, 2) := dk_21 5 (dk_at dksX1_rests_1 18 rfl rfl)
theorem dX1_rests_43 : decode cX1_rests 43 = .ok (.invokevirtual 418, 3) := dk_182 1 162 (dk_at dksX1_rests_1 20 rfl rfl)
theorem dX1_rests_46 : decode cX1_rests 46 = .ok (.if_icmp .gt 32, 3) := dk_163 0 32 (dk_at dksX1_rests_2 0 rfl rfl)
theorem dX1_rests_49 : decode cX1_rests 49 = .ok (.aload_n 0, 1) := dk_42 (dk_at dksX1_rests_2 3 rfl rfl)
theorem dX1_rests_50 : decode cX1_rests 50 = .ok (.iload_n 1, 1) := dk_27 (dk_at dksX1_rests_2 4 rfl rfl)
theorem dX1_rests_51 : decode cX1_rests 51 = .ok (.iload 4, 2) := dk_21 4 (dk_at dksX1_rests_2 5 rfl rfl)
theorem dX1_rests_53 : decode cX1_rests 53 = .ok (.iconst 1, 1) := dk_4 (dk_at dksX1_rests_2 7 rfl rfl)
theorem dX1_rests_54 : decode cX1_rests 54 = .ok (.iload 5, 2) := dk_21 5 (dk_at dksX1_rests_2 8 rfl rfl)
theorem dX1_rests_56 : decode cX1_rests 56 = .ok (.isub, 1) := dk_100 (dk_at dksX1_rests_2 10 rfl rfl)
theorem dX1_rests_57 : decode cX1_rests 57 = .ok (.invokevirtual 421, 3) := dk_182 1 165 (dk_at dksX1_rests_2 11 rfl rfl)
theorem dX1_rests_60 : decode cX1_rests 60 = .ok (.aload_n 0, 1) := dk_42 (dk_at dksX1_rests_2 14 rfl rfl)
theorem dX1_rests_61 : decode cX1_rests 61 = .ok (.iload_n 1, 1) := dk_27 (dk_at dksX1_rests_2 15 rfl rfl)
theorem dX1_rests_62 : decode cX1_rests 62 = .ok (.iload 4, 2) := dk_21 4 (dk_at dksX1_rests_2 16 rfl rfl)
theorem dX1_rests_64 : decode cX1_rests 64 = .ok (.iload 5, 2) := dk_21 5 (dk_at dksX1_rests_2 18 rfl rfl)
theorem dX1_rests_66 : decode cX1_rests 66 = .ok (.invokevirtual 421, 3) := dk_182 1 165 (dk_at dksX1_rests_2 20 rfl rfl)
theorem dX1_rests_69 : decode cX1_rests 69 = .ok (.if_icmp .gt 9, 3) := dk_163 0 9 (dk_at dksX1_rests_3 0 rfl rfl)
theorem dX1_rests_72 : decode cX1_rests 72 = .ok (.iconst 1, 1) := dk_4 (dk_at dksX1_rests_3 3 rfl rfl)
theorem dX1_rests_73 : decode cX1_rests 73 = .ok (.iload_n 3, 1) := dk_29 (dk_at dksX1_rests_3 4 rfl rfl)
theorem dX1_rests_74 : decode cX1_rests 74 = .ok (.ishl, 1) := dk_120 (dk_at dksX1_rests_3 5 rfl rfl)
theorem dX1_rests_75 : decode cX1_rests 75 = .ok (.goto 4, 3) := dk_167 0 4 (dk_at dksX1_rests_3 6 rfl rfl)
theorem dX1_rests_78 : decode cX1_rests 78 = .ok (.iconst 0, 1) := dk_3 (dk_at dksX1_rests_3 9 rfl rfl)
theorem dX1_rests_79 : decode cX1_rests 79 = .ok (.ior, 1) := dk_128 (dk_at dksX1_rests_3 10 rfl rfl)
theorem dX1_rests_80 : decode cX1_rests 80 = .ok (.istore_n 2, 1) := dk_61 (dk_at dksX1_rests_3 11 rfl rfl)
theorem dX1_rests_81 : decode cX1_rests 81 = .ok (.iinc 3 1, 3) := dk_132 3 1 (dk_at dksX1_rests_3 12 rfl rfl)
theorem dX1_rests_84 : decode cX1_rests 84 = .ok (.goto (-74), 3) := dk_167 255 182 (dk_at dksX1_rests_3 15 rfl rfl)
theorem dX1_rests_87 : decode cX1_rests 87 = .ok (.iload_n 2, 1) := dk_28 (dk_at dksX1_rests_3 18 rfl rfl)
theorem dX1_rests_88 : decode cX1_rests 88 = .ok (.ireturn, 1) := dk_172 (dk_at dksX1_rests_3 19 rfl rfl)
abbrev cX1_guestHas : ByteArray := prog_1_method_77_code
def yX1_guestHas : MethodName := ⟨RX1, "guestHas", "(III)I"⟩
def dkwX1_guestHas_1 : List UInt8 := [167, 0, 15, 42, 180, 0, 22, 180, 0, 112, 27, 50, 180, 0, 252, 172]
abbrev dktX1_guestHas_1 : List UInt8 := dkwX1_guestHas_1 ++ []
def dkwX1_guestHas_0 : List UInt8 := [28, 4, 160, 0, 7, 3, 167, 0, 31, 29, 154, 0, 15, 42, 180, 0, 22, 27, 182, 1, 7, 116]
abbrev dktX1_guestHas_0 : List UInt8 := dkwX1_guestHas_0 ++ dktX1_guestHas_1
theorem dksX1_guestHas_0 : cX1_guestHas.data.toList.drop 0 = dktX1_guestHas_0 := by decide +kernel
theorem dksX1_guestHas_1 : cX1_guestHas.data.toList.drop 22 = dktX1_guestHas_1 := dk_seg dksX1_guestHas_0 22 rfl rfl
theorem dX1_guestHas_0 : decode cX1_guestHas 0 = .ok (.iload_n 2, 1) := dk_28 (dk_at dksX1_guestHas_0 0 rfl rfl)
theorem dX1_guestHas_1 : decode cX1_guestHas 1 = .ok (.iconst 1, 1) := dk_4 (dk_at dksX1_guestHas_0 1 rfl rfl)
theorem dX1_guestHas_2 : decode cX1_guestHas 2 = .ok (.if_icmp .ne 7, 3) := dk_160 0 7 (dk_at dksX1_guestHas_0 2 rfl rfl)
theorem dX1_guestHas_5 : decode cX1_guestHas 5 = .ok (.iconst 0, 1) := dk_3 (dk_at dksX1_guestHas_0 5 rfl rfl)
theorem dX1_guestHas_6 : decode cX1_guestHas 6 = .ok (.goto 31, 3) := dk_167 0 31 (dk_at dksX1_guestHas_0 6 rfl rfl)
theorem dX1_guestHas_9 : decode cX1_guestHas 9 = .ok (.iload_n 3, 1) := dk_29 (dk_at dksX1_guestHas_0 9 rfl rfl)
theorem dX1_guestHas_10 : decode cX1_guestHas 10 = .ok (.ifCond .ne 15, 3) := dk_154 0 15 (dk_at dksX1_guestHas_0 10 rfl rfl)
theorem dX1_guestHas_13 : decode cX1_guestHas 13 = .ok (.aload_n 0, 1) := dk_42 (dk_at dksX1_guestHas_0 13 rfl rfl)
theorem dX1_guestHas_14 : decode cX1_guestHas 14 = .ok (.getfield 22, 3) := dk_180 0 22 (dk_at dksX1_guestHas_0 14 rfl rfl)
theorem dX1_guestHas_17 : decode cX1_guestHas 17 = .ok (.iload_n 1, 1) := dk_27 (dk_at dksX1_guestHas_0 17 rfl rfl)
theorem dX1_guestHas_18 : decode cX1_guestHas 18 = .ok (.invokevirtual 263, 3) := dk_182 1 7 (dk_at dksX1_guestHas_0 18 rfl rfl)
theorem dX1_guestHas_21 : decode cX1_guestHas 21 = .ok (.ineg, 1) := dk_116 (dk_at dksX1_guestHas_0 21 rfl rfl)
theorem dX1_guestHas_22 : decode cX1_guestHas 22 = .ok (.goto 15, 3) := dk_167 0 15 (dk_at dksX1_guestHas_1 0 rfl rfl)
theorem dX1_guestHas_25 : decode cX1_guestHas 25 = .ok (.aload_n 0, 1) := dk_42 (dk_at dksX1_guestHas_1 3 rfl rfl)
theorem dX1_guestHas_26 : decode cX1_guestHas 26 = .ok (.getfield 22, 3) := dk_180 0 22 (dk_at dksX1_guestHas_1 4 rfl rfl)
theorem dX1_guestHas_29 : decode cX1_guestHas 29 = .ok (.getfield 112, 3) := dk_180 0 112 (dk_at dksX1_guestHas_1 7 rfl rfl)
theorem dX1_guestHas_32 : decode cX1_guestHas 32 = .ok (.iload_n 1, 1) := dk_27 (dk_at dksX1_guestHas_1 10 rfl rfl)
theorem dX1_guestHas_33 : decode cX1_guestHas 33 = .ok (.aaload, 1) := dk_50 (dk_at dksX1_guestHas_1 11 rfl rfl)
theorem dX1_guestHas_34 : decode cX1_guestHas 34 = .ok (.getfield 252, 3) := dk_180 0 252 (dk_at dksX1_guestHas_1 12 rfl rfl)
theorem dX1_guestHas_37 : decode cX1_guestHas 37 = .ok (.ireturn, 1) := dk_172 (dk_at dksX1_guestHas_1 15 rfl rfl)
abbrev cX1_hostHas : ByteArray := prog_1_method_78_code
def yX1_hostHas : MethodName := ⟨RX1, "hostHas", "(III)I"⟩
def dkwX1_hostHas_1 : List UInt8 := [182, 1, 4, 116, 172, 29, 154, 0, 7, 2, 167, 0, 4, 4, 172]
abbrev dktX1_hostHas_1 : List UInt8 := dkwX1_hostHas_1 ++ []
def dkwX1_hostHas_0 : List UInt8 := [28, 154, 0, 28, 29, 154, 0, 14, 42, 180, 0, 22, 27, 182, 1, 10, 167, 0, 12, 42, 180, 0, 22, 27]
abbrev dktX1_hostHas_0 : List UInt8 := dkwX1_hostHas_0 ++ dktX1_hostHas_1
theorem dksX1_hostHas_0 : cX1_hostHas.data.toList.drop 0 = dktX1_hostHas_0 := by decide +kernel
theorem dksX1_hostHas_1 : cX1_hostHas.data.toList.drop 24 = dktX1_hostHas_1 := dk_seg dksX1_hostHas_0 24 rfl rfl
theorem dX1_hostHas_0 : decode cX1_hostHas 0 = .ok (.iload_n 2, 1) := dk_28 (dk_at dksX1_hostHas_0 0 rfl rfl)
theorem dX1_hostHas_1 : decode cX1_hostHas 1 = .ok (.ifCond .ne 28, 3) := dk_154 0 28 (dk_at dksX1_hostHas_0 1 rfl rfl)
theorem dX1_hostHas_4 : decode cX1_hostHas 4 = .ok (.iload_n 3, 1) := dk_29 (dk_at dksX1_hostHas_0 4 rfl rfl)
theorem dX1_hostHas_5 : decode cX1_hostHas 5 = .ok (.ifCond .ne 14, 3) := dk_154 0 14 (dk_at dksX1_hostHas_0 5 rfl rfl)
theorem dX1_hostHas_8 : decode cX1_hostHas 8 = .ok (.aload_n 0, 1) := dk_42 (dk_at dksX1_hostHas_0 8 rfl rfl)
theorem dX1_hostHas_9 : decode cX1_hostHas 9 = .ok (.getfield 22, 3) := dk_180 0 22 (dk_at dksX1_hostHas_0 9 rfl rfl)
theorem dX1_hostHas_12 : decode cX1_hostHas 12 = .ok (.iload_n 1, 1) := dk_27 (dk_at dksX1_hostHas_0 12 rfl rfl)
theorem dX1_hostHas_13 : decode cX1_hostHas 13 = .ok (.invokevirtual 266, 3) := dk_182 1 10 (dk_at dksX1_hostHas_0 13 rfl rfl)
theorem dX1_hostHas_16 : decode cX1_hostHas 16 = .ok (.goto 12, 3) := dk_167 0 12 (dk_at dksX1_hostHas_0 16 rfl rfl)
theorem dX1_hostHas_19 : decode cX1_hostHas 19 = .ok (.aload_n 0, 1) := dk_42 (dk_at dksX1_hostHas_0 19 rfl rfl)
theorem dX1_hostHas_20 : decode cX1_hostHas 20 = .ok (.getfield 22, 3) := dk_180 0 22 (dk_at dksX1_hostHas_0 20 rfl rfl)
theorem dX1_hostHas_23 : decode cX1_hostHas 23 = .ok (.iload_n 1, 1) := dk_27 (dk_at dksX1_hostHas_0 23 rfl rfl)
theorem dX1_hostHas_24 : decode cX1_hostHas 24 = .ok (.invokevirtual 260, 3) := dk_182 1 4 (dk_at dksX1_hostHas_1 0 rfl rfl)
theorem dX1_hostHas_27 : decode cX1_hostHas 27 = .ok (.ineg, 1) := dk_116 (dk_at dksX1_hostHas_1 3 rfl rfl)
theorem dX1_hostHas_28 : decode cX1_hostHas 28 = .ok (.ireturn, 1) := dk_172 (dk_at dksX1_hostHas_1 4 rfl rfl)
theorem dX1_hostHas_29 : decode cX1_hostHas 29 = .ok (.iload_n 3, 1) := dk_29 (dk_at dksX1_hostHas_1 5 rfl rfl)
theorem dX1_hostHas_30 : decode cX1_hostHas 30 = .ok (.ifCond .ne 7, 3) := dk_154 0 7 (dk_at dksX1_hostHas_1 6 rfl rfl)
theorem dX1_hostHas_33 : decode cX1_hostHas 33 = .ok (.iconst (-1), 1) := dk_2 (dk_at dksX1_hostHas_1 9 rfl rfl)
theorem dX1_hostHas_34 : decode cX1_hostHas 34 = .ok (.goto 4, 3) := dk_167 0 4 (dk_at dksX1_hostHas_1 10 rfl rfl)
theorem dX1_hostHas_37 : decode cX1_hostHas 37 = .ok (.iconst 1, 1) := dk_4 (dk_at dksX1_hostHas_1 13 rfl rfl)
theorem dX1_hostHas_38 : decode cX1_hostHas 38 = .ok (.ireturn, 1) := dk_172 (dk_at dksX1_hostHas_1 14 rfl rfl)
abbrev cX1_odds : ByteArray := prog_1_method_80_code
def yX1_odds : MethodName := ⟨RX1, "odds", "(II)I"⟩
def dkwX1_odds_6 : List UInt8 := [132, 7, 1, 167, 255, 169, 20, 1, 170, 22, 5, 105, 33, 109, 136, 172]
abbrev dktX1_odds_6 : List UInt8 := dkwX1_odds_6 ++ []
def dkwX1_odds_5 : List UInt8 := [180, 0, 22, 180, 1, 91, 100, 133, 105, 55, 8, 132, 10, 1, 167, 255, 209, 22, 5, 22, 8, 97, 55, 5]
abbrev dktX1_odds_5 : List UInt8 := dkwX1_odds_5 ++ dktX1_odds_6
def dkwX1_odds_4 : List UInt8 := [21, 10, 122, 4, 126, 4, 160, 0, 14, 42, 180, 0, 22, 180, 1, 91, 133, 167, 0, 14, 16, 100, 42]
abbrev dktX1_odds_4 : List UInt8 := dkwX1_odds_4 ++ dktX1_odds_5
def dkwX1_odds_3 : List UInt8 := [162, 0, 7, 9, 167, 0, 4, 10, 55, 8, 3, 54, 10, 21, 10, 27, 162, 0, 47, 22, 8, 21, 7]
abbrev dktX1_odds_3 : List UInt8 := dkwX1_odds_3 ++ dktX1_odds_4
def dkwX1_odds_2 : List UInt8 := [132, 7, 1, 167, 255, 241, 3, 54, 7, 21, 7, 4, 27, 120, 162, 0, 85, 21, 7, 184, 1, 132, 28]
abbrev dktX1_odds_2 : List UInt8 := dkwX1_odds_2 ++ dktX1_odds_3
def dkwX1_odds_1 : List UInt8 := [184, 0, 116, 10, 66, 9, 55, 5, 3, 54, 7, 21, 7, 27, 162, 0, 15, 33, 20, 1, 168, 105, 66]
abbrev dktX1_odds_1 : List UInt8 := dkwX1_odds_1 ++ dktX1_odds_2
def dkwX1_odds_0 : List UInt8 := [27, 3, 8, 184, 0, 104, 153, 0, 16, 28, 3, 8, 184, 0, 104, 153, 0, 7, 4, 167, 0, 4, 3]
abbrev dktX1_odds_0 : List UInt8 := dkwX1_odds_0 ++ dktX1_odds_1
theorem dksX1_odds_0 : cX1_odds.data.toList.drop 0 = dktX1_odds_0 := by decide +kernel
theorem dksX1_odds_1 : cX1_odds.data.toList.drop 23 = dktX1_odds_1 := dk_seg dksX1_odds_0 23 rfl rfl
theorem dksX1_odds_2 : cX1_odds.data.toList.drop 46 = dktX1_odds_2 := dk_seg dksX1_odds_1 23 rfl rfl
theorem dksX1_odds_3 : cX1_odds.data.toList.drop 69 = dktX1_odds_3 := dk_seg dksX1_odds_2 23 rfl rfl
theorem dksX1_odds_4 : cX1_odds.data.toList.drop 92 = dktX1_odds_4 := dk_seg dksX1_odds_3 23 rfl rfl
theorem dksX1_odds_5 : cX1_odds.data.toList.drop 115 = dktX1_odds_5 := dk_seg dksX1_odds_4 23 rfl rfl
theorem dksX1_odds_6 : cX1_odds.data.toList.drop 139 = dktX1_odds_6 := dk_seg dksX1_odds_5 24 rfl rfl
theorem dX1_odds_0 : decode cX1_odds 0 = .ok (.iload_n 1, 1) := dk_27 (dk_at dksX1_odds_0 0 rfl rfl)
theorem dX1_odds_1 : decode cX1_odds 1 = .ok (.iconst 0, 1) := dk_3 (dk_at dksX1_odds_0 1 rfl rfl)
theorem dX1_odds_2 : decode cX1_odds 2 = .ok (.iconst 5, 1) := dk_8 (dk_at dksX1_odds_0 2 rfl rfl)
theorem dX1_odds_3 : decode cX1_odds 3 = .ok (.invokestatic 104, 3) := dk_184 0 104 (dk_at dksX1_odds_0 3 rfl rfl)
theorem dX1_odds_6 : decode cX1_odds 6 = .ok (.ifCond .eq 16, 3) := dk_153 0 16 (dk_at dksX1_odds_0 6 rfl rfl)
theorem dX1_odds_9 : decode cX1_odds 9 = .ok (.iload_n 2, 1) := dk_28 (dk_at dksX1_odds_0 9 rfl rfl)
theorem dX1_odds_10 : decode cX1_odds 10 = .ok (.iconst 0, 1) := dk_3 (dk_at dksX1_odds_0 10 rfl rfl)
theorem dX1_odds_11 : decode cX1_odds 11 = .ok (.iconst 5, 1) := dk_8 (dk_at dksX1_odds_0 11 rfl rfl)
theorem dX1_odds_12 : decode cX1_odds 12 = .ok (.invokestatic 104, 3) := dk_184 0 104 (dk_at dksX1_odds_0 12 rfl rfl)
theorem dX1_odds_15 : decode cX1_odds 15 = .ok (.ifCond .eq 7, 3) := dk_153 0 7 (dk_at dksX1_odds_0 15 rfl rfl)
theorem dX1_odds_18 : decode cX1_odds 18 = .ok (.iconst 1, 1) := dk_4 (dk_at dksX1_odds_0 18 rfl rfl)
theorem dX1_odds_19 : decode cX1_odds 19 = .ok (.goto 4, 3) := dk_167 0 4 (dk_at dksX1_odds_0 19 rfl rfl)
theorem dX1_odds_22 : decode cX1_odds 22 = .ok (.iconst 0, 1) := dk_3 (dk_at dksX1_odds_0 22 rfl rfl)
theorem dX1_odds_23 : decode cX1_odds 23 = .ok (.invokestatic 116, 3) := dk_184 0 116 (dk_at dksX1_odds_1 0 rfl rfl)
theorem dX1_odds_26 : decode cX1_odds 26 = .ok (.lconst 1, 1) := dk_10 (dk_at dksX1_odds_1 3 rfl rfl)
theorem dX1_odds_27 : decode cX1_odds 27 = .ok (.lstore_n 3, 1) := dk_66 (dk_at dksX1_odds_1 4 rfl rfl)
theorem dX1_odds_28 : decode cX1_odds 28 = .ok (.lconst 0, 1) := dk_9 (dk_at dksX1_odds_1 5 rfl rfl)
theorem dX1_odds_29 : decode cX1_odds 29 = .ok (.lstore 5, 2) := dk_55 5 (dk_at dksX1_odds_1 6 rfl rfl)
theorem dX1_odds_31 : decode cX1_odds 31 = .ok (.iconst 0, 1) := dk_3 (dk_at dksX1_odds_1 8 rfl rfl)
theorem dX1_odds_32 : decode cX1_odds 32 = .ok (.istore 7, 2) := dk_54 7 (dk_at dksX1_odds_1 9 rfl rfl)
theorem dX1_odds_34 : decode cX1_odds 34 = .ok (.iload 7, 2) := dk_21 7 (dk_at dksX1_odds_1 11 rfl rfl)
theorem dX1_odds_36 : decode cX1_odds 36 = .ok (.iload_n 1, 1) := dk_27 (dk_at dksX1_odds_1 13 rfl rfl)
theorem dX1_odds_37 : decode cX1_odds 37 = .ok (.if_icmp .ge 15, 3) := dk_162 0 15 (dk_at dksX1_odds_1 14 rfl rfl)
theorem dX1_odds_40 : decode cX1_odds 40 = .ok (.lload_n 3, 1) := dk_33 (dk_at dksX1_odds_1 17 rfl rfl)
theorem dX1_odds_41 : decode cX1_odds 41 = .ok (.ldc2_w 424, 3) := dk_20 1 168 (dk_at dksX1_odds_1 18 rfl rfl)
theorem dX1_odds_44 : decode cX1_odds 44 = .ok (.lmul, 1) := dk_105 (dk_at dksX1_odds_1 21 rfl rfl)
theorem dX1_odds_45 : decode cX1_odds 45 = .ok (.lstore_n 3, 1) := dk_66 (dk_at dksX1_odds_1 22 rfl rfl)
theorem dX1_odds_46 : decode cX1_odds 46 = .ok (.iinc 7 1, 3) := dk_132 7 1 (dk_at dksX1_odds_2 0 rfl rfl)
theorem dX1_odds_49 : decode cX1_odds 49 = .ok (.goto (-15), 3) := dk_167 255 241 (dk_at dksX1_odds_2 3 rfl rfl)
theorem dX1_odds_52 : decode cX1_odds 52 = .ok (.iconst 0, 1) := dk_3 (dk_at dksX1_odds_2 6 rfl rfl)
theorem dX1_odds_53 : decode cX1_odds 53 = .ok (.istore 7, 2) := dk_54 7 (dk_at dksX1_odds_2 7 rfl rfl)
theorem dX1_odds_55 : decode cX1_odds 55 = .ok (.iload 7, 2) := dk_21 7 (dk_at dksX1_odds_2 9 rfl rfl)
theorem dX1_odds_57 : decode cX1_odds 57 = .ok (.iconst 1, 1) := dk_4 (dk_at dksX1_odds_2 11 rfl rfl)
theorem dX1_odds_58 : decode cX1_odds 58 = .ok (.iload_n 1, 1) := dk_27 (dk_at dksX1_odds_2 12 rfl rfl)
theorem dX1_odds_59 : decode cX1_odds 59 = .ok (.ishl, 1) := dk_120 (dk_at dksX1_odds_2 13 rfl rfl)
theorem dX1_odds_60 : decode cX1_odds 60 = .ok (.if_icmp .ge 85, 3) := dk_162 0 85 (dk_at dksX1_odds_2 14 rfl rfl)
theorem dX1_odds_63 : decode cX1_odds 63 = .ok (.iload 7, 2) := dk_21 7 (dk_at dksX1_odds_2 17 rfl rfl)
theorem dX1_odds_65 : decode cX1_odds 65 = .ok (.invokestatic 388, 3) := dk_184 1 132 (dk_at dksX1_odds_2 19 rfl rfl)
theorem dX1_odds_68 : decode cX1_odds 68 = .ok (.iload_n 2, 1) := dk_28 (dk_at dksX1_odds_2 22 rfl rfl)
theorem dX1_odds_69 : decode cX1_odds 69 = .ok (.if_icmp .ge 7, 3) := dk_162 0 7 (dk_at dksX1_odds_3 0 rfl rfl)
theorem dX1_odds_72 : decode cX1_odds 72 = .ok (.lconst 0, 1) := dk_9 (dk_at dksX1_odds_3 3 rfl rfl)
theorem dX1_odds_73 : decode cX1_odds 73 = .ok (.goto 4, 3) := dk_167 0 4 (dk_at dksX1_odds_3 4 rfl rfl)
theorem dX1_odds_76 : decode cX1_odds 76 = .ok (.lconst 1, 1) := dk_10 (dk_at dksX1_odds_3 7 rfl rfl)
theorem dX1_odds_77 : decode cX1_odds 77 = .ok (.lstore 8, 2) := dk_55 8 (dk_at dksX1_odds_3 8 rfl rfl)
theorem dX1_odds_79 : decode cX1_odds 79 = .ok (.iconst 0, 1) := dk_3 (dk_at dksX1_odds_3 10 rfl rfl)
theorem dX1_odds_80 : decode cX1_odds 80 = .ok (.istore 10, 2) := dk_54 10 (dk_at dksX1_odds_3 11 rfl rfl)
theorem dX1_odds_82 : decode cX1_odds 82 = .ok (.iload 10, 2) := dk_21 10 (dk_at dksX1_odds_3 13 rfl rfl)
theorem dX1_odds_84 : decode cX1_odds 84 = .ok (.iload_n 1, 1) := dk_27 (dk_at dksX1_odds_3 15 rfl rfl)
theorem dX1_odds_85 : decode cX1_odds 85 = .ok (.if_icmp .ge 47, 3) := dk_162 0 47 (dk_at dksX1_odds_3 16 rfl rfl)
theorem dX1_odds_88 : decode cX1_odds 88 = .ok (.lload 8, 2) := dk_22 8 (dk_at dksX1_odds_3 19 rfl rfl)
theorem dX1_odds_90 : decode cX1_odds 90 = .ok (.iload 7, 2) := dk_21 7 (dk_at dksX1_odds_3 21 rfl rfl)
theorem dX1_odds_92 : decode cX1_odds 92 = .ok (.iload 10, 2) := dk_21 10 (dk_at dksX1_odds_4 0 rfl rfl)
theorem dX1_odds_94 : decode cX1_odds 94 = .ok (.ishr, 1) := dk_122 (dk_at dksX1_odds_4 2 rfl rfl)
theorem dX1_odds_95 : decode cX1_odds 95 = .ok (.iconst 1, 1) := dk_4 (dk_at dksX1_odds_4 3 rfl rfl)
theorem dX1_odds_96 : decode cX1_odds 96 = .ok (.iand, 1) := dk_126 (dk_at dksX1_odds_4 4 rfl rfl)
theorem dX1_odds_97 : decode cX1_odds 97 = .ok (.iconst 1, 1) := dk_4 (dk_at dksX1_odds_4 5 rfl rfl)
theorem dX1_odds_98 : decode cX1_odds 98 = .ok (.if_icmp .ne 14, 3) := dk_160 0 14 (dk_at dksX1_odds_4 6 rfl rfl)
theorem dX1_odds_101 : decode cX1_odds 101 = .ok (.aload_n 0, 1) := dk_42 (dk_at dksX1_odds_4 9 rfl rfl)
theorem dX1_odds_102 : decode cX1_odds 102 = .ok (.getfield 22, 3) := dk_180 0 22 (dk_at dksX1_odds_4 10 rfl rfl)
theorem dX1_odds_105 : decode cX1_odds 105 = .ok (.getfield 347, 3) := dk_180 1 91 (dk_at dksX1_odds_4 13 rfl rfl)
theorem dX1_odds_108 : decode cX1_odds 108 = .ok (.i2l, 1) := dk_133 (dk_at dksX1_odds_4 16 rfl rfl)
theorem dX1_odds_109 : decode cX1_odds 109 = .ok (.goto 14, 3) := dk_167 0 14 (dk_at dksX1_odds_4 17 rfl rfl)
theorem dX1_odds_112 : decode cX1_odds 112 = .ok (.bipush 100, 2) := dk_16 100 (dk_at dksX1_odds_4 20 rfl rfl)
theorem dX1_odds_114 : decode cX1_odds 114 = .ok (.aload_n 0, 1) := dk_42 (dk_at dksX1_odds_4 22 rfl rfl)
theorem dX1_odds_115 : decode cX1_odds 115 = .ok (.getfield 22, 3) := dk_180 0 22 (dk_at dksX1_odds_5 0 rfl rfl)
theorem dX1_odds_118 : decode cX1_odds 118 = .ok (.getfield 347, 3) := dk_180 1 91 (dk_at dksX1_odds_5 3 rfl rfl)
theorem dX1_odds_121 : decode cX1_odds 121 = .ok (.isub, 1) := dk_100 (dk_at dksX1_odds_5 6 rfl rfl)
theorem dX1_odds_122 : decode cX1_odds 122 = .ok (.i2l, 1) := dk_133 (dk_at dksX1_odds_5 7 rfl rfl)
theorem dX1_odds_123 : decode cX1_odds 123 = .ok (.lmul, 1) := dk_105 (dk_at dksX1_odds_5 8 rfl rfl)
theorem dX1_odds_124 : decode cX1_odds 124 = .ok (.lstore 8, 2) := dk_55 8 (dk_at dksX1_odds_5 9 rfl rfl)
theorem dX1_odds_126 : decode cX1_odds 126 = .ok (.iinc 10 1, 3) := dk_132 10 1 (dk_at dksX1_odds_5 11 rfl rfl)
theorem dX1_odds_129 : decode cX1_odds 129 = .ok (.goto (-47), 3) := dk_167 255 209 (dk_at dksX1_odds_5 14 rfl rfl)
theorem dX1_odds_132 : decode cX1_odds 132 = .ok (.lload 5, 2) := dk_22 5 (dk_at dksX1_odds_5 17 rfl rfl)
theorem dX1_odds_134 : decode cX1_odds 134 = .ok (.lload 8, 2) := dk_22 8 (dk_at dksX1_odds_5 19 rfl rfl)
theorem dX1_odds_136 : decode cX1_odds 136 = .ok (.ladd, 1) := dk_97 (dk_at dksX1_odds_5 21 rfl rfl)
theorem dX1_odds_137 : decode cX1_odds 137 = .ok (.lstore 5, 2) := dk_55 5 (dk_at dksX1_odds_5 22 rfl rfl)
theorem dX1_odds_139 : decode cX1_odds 139 = .ok (.iinc 7 1, 3) := dk_132 7 1 (dk_at dksX1_odds_6 0 rfl rfl)
theorem dX1_odds_142 : decode cX1_odds 142 = .ok (.goto (-87), 3) := dk_167 255 169 (dk_at dksX1_odds_6 3 rfl rfl)
theorem dX1_odds_145 : decode cX1_odds 145 = .ok (.ldc2_w 426, 3) := dk_20 1 170 (dk_at dksX1_odds_6 6 rfl rfl)
theorem dX1_odds_148 : decode cX1_odds 148 = .ok (.lload 5, 2) := dk_22 5 (dk_at dksX1_odds_6 9 rfl rfl)
theorem dX1_odds_150 : decode cX1_odds 150 = .ok (.lmul, 1) := dk_105 (dk_at dksX1_odds_6 11 rfl rfl)
theorem dX1_odds_151 : decode cX1_odds 151 = .ok (.lload_n 3, 1) := dk_33 (dk_at dksX1_odds_6 12 rfl rfl)
theorem dX1_odds_152 : decode cX1_odds 152 = .ok (.ldiv, 1) := dk_109 (dk_at dksX1_odds_6 13 rfl rfl)
theorem dX1_odds_153 : decode cX1_odds 153 = .ok (.l2i, 1) := dk_136 (dk_at dksX1_odds_6 14 rfl rfl)
theorem dX1_odds_154 : decode cX1_odds 154 = .ok (.ireturn, 1) := dk_172 (dk_at dksX1_odds_6 15 rfl rfl)
abbrev cX1_most : ByteArray := prog_1_method_82_code
def yX1_most : MethodName := ⟨RX1, "most", "(I)I"⟩
def dkwX1_most_2 : List UInt8 := [132, 3, 1, 167, 255, 220, 28, 172]
abbrev dktX1_most_2 : List UInt8 := dkwX1_most_2 ++ []
def dkwX1_most_1 : List UInt8 := [28, 2, 159, 0, 18, 42, 27, 29, 182, 1, 172, 42, 27, 28, 182, 1, 172, 164, 0, 5, 29, 61]
abbrev dktX1_most_1 : List UInt8 := dkwX1_most_1 ++ dktX1_most_2
def dkwX1_most_0 : List UInt8 := [27, 3, 5, 184, 0, 104, 184, 1, 25, 2, 61, 3, 62, 29, 42, 180, 0, 22, 180, 0, 101, 162, 0, 31]
abbrev dktX1_most_0 : List UInt8 := dkwX1_most_0 ++ dktX1_most_1
theorem dksX1_most_0 : cX1_most.data.toList.drop 0 = dktX1_most_0 := by decide +kernel
theorem dksX1_most_1 : cX1_most.data.toList.drop 24 = dktX1_most_1 := dk_seg dksX1_most_0 24 rfl rfl
theorem dksX1_most_2 : cX1_most.data.toList.drop 46 = dktX1_most_2 := dk_seg dksX1_most_1 22 rfl rfl
theorem dX1_most_0 : decode cX1_most 0 = .ok (.iload_n 1, 1) := dk_27 (dk_at dksX1_most_0 0 rfl rfl)
theorem dX1_most_1 : decode cX1_most 1 = .ok (.iconst 0, 1) := dk_3 (dk_at dksX1_most_0 1 rfl rfl)
theorem dX1_most_2 : decode cX1_most 2 = .ok (.iconst 2, 1) := dk_5 (dk_at dksX1_most_0 2 rfl rfl)
theorem dX1_most_3 : decode cX1_most 3 = .ok (.invokestatic 104, 3) := dk_184 0 104 (dk_at dksX1_most_0 3 rfl rfl)
theorem dX1_most_6 : decode cX1_most 6 = .ok (.invokestatic 281, 3) := dk_184 1 25 (dk_at dksX1_most_0 6 rfl rfl)
theorem dX1_most_9 : decode cX1_most 9 = .ok (.iconst (-1), 1) := dk_2 (dk_at dksX1_most_0 9 rfl rfl)
theorem dX1_most_10 : decode cX1_most 10 = .ok (.istore_n 2, 1) := dk_61 (dk_at dksX1_most_0 10 rfl rfl)
theorem dX1_most_11 : decode cX1_most 11 = .ok (.iconst 0, 1) := dk_3 (dk_at dksX1_most_0 11 rfl rfl)
theorem dX1_most_12 : decode cX1_most 12 = .ok (.istore_n 3, 1) := dk_62 (dk_at dksX1_most_0 12 rfl rfl)
theorem dX1_most_13 : decode cX1_most 13 = .ok (.iload_n 3, 1) := dk_29 (dk_at dksX1_most_0 13 rfl rfl)
theorem dX1_most_14 : decode cX1_most 14 = .ok (.aload_n 0, 1) := dk_42 (dk_at dksX1_most_0 14 rfl rfl)
theorem dX1_most_15 : decode cX1_most 15 = .ok (.getfield 22, 3) := dk_180 0 22 (dk_at dksX1_most_0 15 rfl rfl)
theorem dX1_most_18 : decode cX1_most 18 = .ok (.getfield 101, 3) := dk_180 0 101 (dk_at dksX1_most_0 18 rfl rfl)
theorem dX1_most_21 : decode cX1_most 21 = .ok (.if_icmp .ge 31, 3) := dk_162 0 31 (dk_at dksX1_most_0 21 rfl rfl)
theorem dX1_most_24 : decode cX1_most 24 = .ok (.iload_n 2, 1) := dk_28 (dk_at dksX1_most_1 0 rfl rfl)
theorem dX1_most_25 : decode cX1_most 25 = .ok (.iconst (-1), 1) := dk_2 (dk_at dksX1_most_1 1 rfl rfl)
theorem dX1_most_26 : decode cX1_most 26 = .ok (.if_icmp .eq 18, 3) := dk_159 0 18 (dk_at dksX1_most_1 2 rfl rfl)
theorem dX1_most_29 : decode cX1_most 29 = .ok (.aload_n 0, 1) := dk_42 (dk_at dksX1_most_1 5 rfl rfl)
theorem dX1_most_30 : decode cX1_most 30 = .ok (.iload_n 1, 1) := dk_27 (dk_at dksX1_most_1 6 rfl rfl)
theorem dX1_most_31 : decode cX1_most 31 = .ok (.iload_n 3, 1) := dk_29 (dk_at dksX1_most_1 7 rfl rfl)
theorem dX1_most_32 : decode cX1_most 32 = .ok (.invokevirtual 428, 3) := dk_182 1 172 (dk_at dksX1_most_1 8 rfl rfl)
theorem dX1_most_35 : decode cX1_most 35 = .ok (.aload_n 0, 1) := dk_42 (dk_at dksX1_most_1 11 rfl rfl)
theorem dX1_most_36 : decode cX1_most 36 = .ok (.iload_n 1, 1) := dk_27 (dk_at dksX1_most_1 12 rfl rfl)
theorem dX1_most_37 : decode cX1_most 37 = .ok (.iload_n 2, 1) := dk_28 (dk_at dksX1_most_1 13 rfl rfl)
theorem dX1_most_38 : decode cX1_most 38 = .ok (.invokevirtual 428, 3) := dk_182 1 172 (dk_at dksX1_most_1 14 rfl rfl)
theorem dX1_most_41 : decode cX1_most 41 = .ok (.if_icmp .le 5, 3) := dk_164 0 5 (dk_at dksX1_most_1 17 rfl rfl)
theorem dX1_most_44 : decode cX1_most 44 = .ok (.iload_n 3, 1) := dk_29 (dk_at dksX1_most_1 20 rfl rfl)
theorem dX1_most_45 : decode cX1_most 45 = .ok (.istore_n 2, 1) := dk_61 (dk_at dksX1_most_1 21 rfl rfl)
theorem dX1_most_46 : decode cX1_most 46 = .ok (.iinc 3 1, 3) := dk_132 3 1 (dk_at dksX1_most_2 0 rfl rfl)
theorem dX1_most_49 : decode cX1_most 49 = .ok (.goto (-36), 3) := dk_167 255 220 (dk_at dksX1_most_2 3 rfl rfl)
theorem dX1_most_52 : decode cX1_most 52 = .ok (.iload_n 2, 1) := dk_28 (dk_at dksX1_most_2 6 rfl rfl)
theorem dX1_most_53 : decode cX1_most 53 = .ok (.ireturn, 1) := dk_172 (dk_at dksX1_most_2 7 rfl rfl)
abbrev cX1_valueOf : ByteArray := prog_1_method_81_code
def yX1_valueOf : MethodName := ⟨RX1, "valueOf", "(II)I"⟩
def dkwX1_valueOf_1 : List UInt8 := [42, 180, 0, 22, 28, 182, 1, 4, 167, 0, 11, 42, 180, 0, 22, 28, 182, 1, 13, 172]
abbrev dktX1_valueOf_1 : List UInt8 := dkwX1_valueOf_1 ++ []
def dkwX1_valueOf_0 : List UInt8 := [27, 154, 0, 18, 42, 180, 0, 22, 180, 0, 112, 28, 50, 180, 0, 252, 167, 0, 27, 27, 4, 160, 0, 14]
abbrev dktX1_valueOf_0 : List UInt8 := dkwX1_valueOf_0 ++ dktX1_valueOf_1
theorem dksX1_valueOf_0 : cX1_valueOf.data.toList.drop 0 = dktX1_valueOf_0 := by decide +kernel
theorem dksX1_valueOf_1 : cX1_valueOf.data.toList.drop 24 = dktX1_valueOf_1 := dk_seg dksX1_valueOf_0 24 rfl rfl
theorem dX1_valueOf_0 : decode cX1_valueOf 0 = .ok (.iload_n 1, 1) := dk_27 (dk_at dksX1_valueOf_0 0 rfl rfl)
theorem dX1_valueOf_1 : decode cX1_valueOf 1 = .ok (.ifCond .ne 18, 3) := dk_154 0 18 (dk_at dksX1_valueOf_0 1 rfl rfl)
theorem dX1_valueOf_4 : decode cX1_valueOf 4 = .ok (.aload_n 0, 1) := dk_42 (dk_at dksX1_valueOf_0 4 rfl rfl)
theorem dX1_valueOf_5 : decode cX1_valueOf 5 = .ok (.getfield 22, 3) := dk_180 0 22 (dk_at dksX1_valueOf_0 5 rfl rfl)
theorem dX1_valueOf_8 : decode cX1_valueOf 8 = .ok (.getfield 112, 3) := dk_180 0 112 (dk_at dksX1_valueOf_0 8 rfl rfl)
theorem dX1_valueOf_11 : decode cX1_valueOf 11 = .ok (.iload_n 2, 1) := dk_28 (dk_at dksX1_valueOf_0 11 rfl rfl)
theorem dX1_valueOf_12 : decode cX1_valueOf 12 = .ok (.aaload, 1) := dk_50 (dk_at dksX1_valueOf_0 12 rfl rfl)
theorem dX1_valueOf_13 : decode cX1_valueOf 13 = .ok (.getfield 252, 3) := dk_180 0 252 (dk_at dksX1_valueOf_0 13 rfl rfl)
theorem dX1_valueOf_16 : decode cX1_valueOf 16 = .ok (.goto 27, 3) := dk_167 0 27 (dk_at dksX1_valueOf_0 16 rfl rfl)
theorem dX1_valueOf_19 : decode cX1_valueOf 19 = .ok (.iload_n 1, 1) := dk_27 (dk_at dksX1_valueOf_0 19 rfl rfl)
theorem dX1_valueOf_20 : decode cX1_valueOf 20 = .ok (.iconst 1, 1) := dk_4 (dk_at dksX1_valueOf_0 20 rfl rfl)
theorem dX1_valueOf_21 : decode cX1_valueOf 21 = .ok (.if_icmp .ne 14, 3) := dk_160 0 14 (dk_at dksX1_valueOf_0 21 rfl rfl)
theorem dX1_valueOf_24 : decode cX1_valueOf 24 = .ok (.aload_n 0, 1) := dk_42 (dk_at dksX1_valueOf_1 0 rfl rfl)
theorem dX1_valueOf_25 : decode cX1_valueOf 25 = .ok (.getfield 22, 3) := dk_180 0 22 (dk_at dksX1_valueOf_1 1 rfl rfl)
theorem dX1_valueOf_28 : decode cX1_valueOf 28 = .ok (.iload_n 2, 1) := dk_28 (dk_at dksX1_valueOf_1 4 rfl rfl)
theorem dX1_valueOf_29 : decode cX1_valueOf 29 = .ok (.invokevirtual 260, 3) := dk_182 1 4 (dk_at dksX1_valueOf_1 5 rfl rfl)
theorem dX1_valueOf_32 : decode cX1_valueOf 32 = .ok (.goto 11, 3) := dk_167 0 11 (dk_at dksX1_valueOf_1 8 rfl rfl)
theorem dX1_valueOf_35 : decode cX1_valueOf 35 = .ok (.aload_n 0, 1) := dk_42 (dk_at dksX1_valueOf_1 11 rfl rfl)
theorem dX1_valueOf_36 : decode cX1_valueOf 36 = .ok (.getfield 22, 3) := dk_180 0 22 (dk_at dksX1_valueOf_1 12 rfl rfl)
theorem dX1_valueOf_39 : decode cX1_valueOf 39 = .ok (.iload_n 2, 1) := dk_28 (dk_at dksX1_valueOf_1 15 rfl rfl)
theorem dX1_valueOf_40 : decode cX1_valueOf 40 = .ok (.invokevirtual 269, 3) := dk_182 1 13 (dk_at dksX1_valueOf_1 16 rfl rfl)
theorem dX1_valueOf_43 : decode cX1_valueOf 43 = .ok (.ireturn, 1) := dk_172 (dk_at dksX1_valueOf_1 19 rfl rfl)
abbrev cX1_ahead : ByteArray := prog_1_method_84_code
def yX1_ahead : MethodName := ⟨RX1, "ahead", "(IZ)I"⟩
def dkwX1_ahead_2 : List UInt8 := [180, 1, 41, 54, 4, 42, 180, 0, 22, 42, 180, 0, 29, 182, 0, 153, 21, 4, 172]
abbrev dktX1_ahead_2 : List UInt8 := dkwX1_ahead_2 ++ []
def dkwX1_ahead_1 : List UInt8 := [153, 0, 16, 42, 180, 0, 22, 180, 0, 79, 180, 1, 41, 167, 0, 13, 42, 180, 0, 22, 180, 0, 76]
abbrev dktX1_ahead_1 : List UInt8 := dkwX1_ahead_1 ++ dktX1_ahead_2
def dkwX1_ahead_0 : List UInt8 := [27, 184, 1, 115, 42, 180, 0, 29, 42, 180, 0, 22, 182, 0, 153, 42, 27, 3, 182, 1, 70, 62, 28]
abbrev dktX1_ahead_0 : List UInt8 := dkwX1_ahead_0 ++ dktX1_ahead_1
theorem dksX1_ahead_0 : cX1_ahead.data.toList.drop 0 = dktX1_ahead_0 := by decide +kernel
theorem dksX1_ahead_1 : cX1_ahead.data.toList.drop 23 = dktX1_ahead_1 := dk_seg dksX1_ahead_0 23 rfl rfl
theorem dksX1_ahead_2 : cX1_ahead.data.toList.drop 46 = dktX1_ahead_2 := dk_seg dksX1_ahead_1 23 rfl rfl
theorem dX1_ahead_0 : decode cX1_ahead 0 = .ok (.iload_n 1, 1) := dk_27 (dk_at dksX1_ahead_0 0 rfl rfl)
theorem dX1_ahead_1 : decode cX1_ahead 1 = .ok (.invokestatic 371, 3) := dk_184 1 115 (dk_at dksX1_ahead_0 1 rfl rfl)
theorem dX1_ahead_4 : decode cX1_ahead 4 = .ok (.aload_n 0, 1) := dk_42 (dk_at dksX1_ahead_0 4 rfl rfl)
theorem dX1_ahead_5 : decode cX1_ahead 5 = .ok (.getfield 29, 3) := dk_180 0 29 (dk_at dksX1_ahead_0 5 rfl rfl)
theorem dX1_ahead_8 : decode cX1_ahead 8 = .ok (.aload_n 0, 1) := dk_42 (dk_at dksX1_ahead_0 8 rfl rfl)
theorem dX1_ahead_9 : decode cX1_ahead 9 = .ok (.getfield 22, 3) := dk_180 0 22 (dk_at dksX1_ahead_0 9 rfl rfl)
theorem dX1_ahead_12 : decode cX1_ahead 12 = .ok (.invokevirtual 153, 3) := dk_182 0 153 (dk_at dksX1_ahead_0 12 rfl rfl)
theorem dX1_ahead_15 : decode cX1_ahead 15 = .ok (.aload_n 0, 1) := dk_42 (dk_at dksX1_ahead_0 15 rfl rfl)
theorem dX1_ahead_16 : decode cX1_ahead 16 = .ok (.iload_n 1, 1) := dk_27 (dk_at dksX1_ahead_0 16 rfl rfl)
theorem dX1_ahead_17 : decode cX1_ahead 17 = .ok (.iconst 0, 1) := dk_3 (dk_at dksX1_ahead_0 17 rfl rfl)
theorem dX1_ahead_18 : decode cX1_ahead 18 = .ok (.invokevirtual 326, 3) := dk_182 1 70 (dk_at dksX1_ahead_0 18 rfl rfl)
theorem dX1_ahead_21 : decode cX1_ahead 21 = .ok (.istore_n 3, 1) := dk_62 (dk_at dksX1_ahead_0 21 rfl rfl)
theorem dX1_ahead_22 : decode cX1_ahead 22 = .ok (.iload_n 2, 1) := dk_28 (dk_at dksX1_ahead_0 22 rfl rfl)
theorem dX1_ahead_23 : decode cX1_ahead 23 = .ok (.ifCond .eq 16, 3) := dk_153 0 16 (dk_at dksX1_ahead_1 0 rfl rfl)
theorem dX1_ahead_26 : decode cX1_ahead 26 = .ok (.aload_n 0, 1) := dk_42 (dk_at dksX1_ahead_1 3 rfl rfl)
theorem dX1_ahead_27 : decode cX1_ahead 27 = .ok (.getfield 22, 3) := dk_180 0 22 (dk_at dksX1_ahead_1 4 rfl rfl)
theorem dX1_ahead_30 : decode cX1_ahead 30 = .ok (.getfield 79, 3) := dk_180 0 79 (dk_at dksX1_ahead_1 7 rfl rfl)
theorem dX1_ahead_33 : decode cX1_ahead 33 = .ok (.getfield 297, 3) := dk_180 1 41 (dk_at dksX1_ahead_1 10 rfl rfl)
theorem dX1_ahead_36 : decode cX1_ahead 36 = .ok (.goto 13, 3) := dk_167 0 13 (dk_at dksX1_ahead_1 13 rfl rfl)
theorem dX1_ahead_39 : decode cX1_ahead 39 = .ok (.aload_n 0, 1) := dk_42 (dk_at dksX1_ahead_1 16 rfl rfl)
theorem dX1_ahead_40 : decode cX1_ahead 40 = .ok (.getfield 22, 3) := dk_180 0 22 (dk_at dksX1_ahead_1 17 rfl rfl)
theorem dX1_ahead_43 : decode cX1_ahead 43 = .ok (.getfield 76, 3) := dk_180 0 76 (dk_at dksX1_ahead_1 20 rfl rfl)
theorem dX1_ahead_46 : decode cX1_ahead 46 = .ok (.getfield 297, 3) := dk_180 1 41 (dk_at dksX1_ahead_2 0 rfl rfl)
theorem dX1_ahead_49 : decode cX1_ahead 49 = .ok (.istore 4, 2) := dk_54 4 (dk_at dksX1_ahead_2 3 rfl rfl)
theorem dX1_ahead_51 : decode cX1_ahead 51 = .ok (.aload_n 0, 1) := dk_42 (dk_at dksX1_ahead_2 5 rfl rfl)
theorem dX1_ahead_52 : decode cX1_ahead 52 = .ok (.getfield 22, 3) := dk_180 0 22 (dk_at dksX1_ahead_2 6 rfl rfl)
theorem dX1_ahead_55 : decode cX1_ahead 55 = .ok (.aload_n 0, 1) := dk_42 (dk_at dksX1_ahead_2 9 rfl rfl)
theorem dX1_ahead_56 : decode cX1_ahead 56 = .ok (.getfield 29, 3) := dk_180 0 29 (dk_at dksX1_ahead_2 10 rfl rfl)
theorem dX1_ahead_59 : decode cX1_ahead 59 = .ok (.invokevirtual 153, 3) := dk_182 0 153 (dk_at dksX1_ahead_2 13 rfl rfl)
theorem dX1_ahead_62 : decode cX1_ahead 62 = .ok (.iload 4, 2) := dk_21 4 (dk_at dksX1_ahead_2 16 rfl rfl)
theorem dX1_ahead_64 : decode cX1_ahead 64 = .ok (.ireturn, 1) := dk_172 (dk_at dksX1_ahead_2 18 rfl rfl)
abbrev cX1_trial : ByteArray := prog_1_method_85_code
def yX1_trial : MethodName := ⟨RX1, "trial", "(IZ)I"⟩
def dkwX1_trial_2 : List UInt8 := [180, 0, 22, 42, 180, 0, 29, 182, 0, 153, 21, 4, 172]
abbrev dktX1_trial_2 : List UInt8 := dkwX1_trial_2 ++ []
def dkwX1_trial_1 : List UInt8 := [153, 0, 13, 42, 182, 1, 177, 184, 0, 248, 167, 0, 10, 42, 180, 0, 22, 180, 1, 180, 54, 4, 42]
abbrev dktX1_trial_1 : List UInt8 := dkwX1_trial_1 ++ dktX1_trial_2
def dkwX1_trial_0 : List UInt8 := [27, 184, 1, 115, 42, 180, 0, 29, 42, 180, 0, 22, 182, 0, 153, 42, 27, 4, 182, 1, 70, 62, 28]
abbrev dktX1_trial_0 : List UInt8 := dkwX1_trial_0 ++ dktX1_trial_1
theorem dksX1_trial_0 : cX1_trial.data.toList.drop 0 = dktX1_trial_0 := by decide +kernel
theorem dksX1_trial_1 : cX1_trial.data.toList.drop 23 = dktX1_trial_1 := dk_seg dksX1_trial_0 23 rfl rfl
theorem dksX1_trial_2 : cX1_trial.data.toList.drop 46 = dktX1_trial_2 := dk_seg dksX1_trial_1 23 rfl rfl
theorem dX1_trial_0 : decode cX1_trial 0 = .ok (.iload_n 1, 1) := dk_27 (dk_at dksX1_trial_0 0 rfl rfl)
theorem dX1_trial_1 : decode cX1_trial 1 = .ok (.invokestatic 371, 3) := dk_184 1 115 (dk_at dksX1_trial_0 1 rfl rfl)
theorem dX1_trial_4 : decode cX1_trial 4 = .ok (.aload_n 0, 1) := dk_42 (dk_at dksX1_trial_0 4 rfl rfl)
theorem dX1_trial_5 : decode cX1_trial 5 = .ok (.getfield 29, 3) := dk_180 0 29 (dk_at dksX1_trial_0 5 rfl rfl)
theorem dX1_trial_8 : decode cX1_trial 8 = .ok (.aload_n 0, 1) := dk_42 (dk_at dksX1_trial_0 8 rfl rfl)
theorem dX1_trial_9 : decode cX1_trial 9 = .ok (.getfield 22, 3) := dk_180 0 22 (dk_at dksX1_trial_0 9 rfl rfl)
theorem dX1_trial_12 : decode cX1_trial 12 = .ok (.invokevirtual 153, 3) := dk_182 0 153 (dk_at dksX1_trial_0 12 rfl rfl)
theorem dX1_trial_15 : decode cX1_trial 15 = .ok (.aload_n 0, 1) := dk_42 (dk_at dksX1_trial_0 15 rfl rfl)
theorem dX1_trial_16 : decode cX1_trial 16 = .ok (.iload_n 1, 1) := dk_27 (dk_at dksX1_trial_0 16 rfl rfl)
theorem dX1_trial_17 : decode cX1_trial 17 = .ok (.iconst 1, 1) := dk_4 (dk_at dksX1_trial_0 17 rfl rfl)
theorem dX1_trial_18 : decode cX1_trial 18 = .ok (.invokevirtual 326, 3) := dk_182 1 70 (dk_at dksX1_trial_0 18 rfl rfl)
theorem dX1_trial_21 : decode cX1_trial 21 = .ok (.istore_n 3, 1) := dk_62 (dk_at dksX1_trial_0 21 rfl rfl)
theorem dX1_trial_22 : decode cX1_trial 22 = .ok (.iload_n 2, 1) := dk_28 (dk_at dksX1_trial_0 22 rfl rfl)
theorem dX1_trial_23 : decode cX1_trial 23 = .ok (.ifCond .eq 13, 3) := dk_153 0 13 (dk_at dksX1_trial_1 0 rfl rfl)
theorem dX1_trial_26 : decode cX1_trial 26 = .ok (.aload_n 0, 1) := dk_42 (dk_at dksX1_trial_1 3 rfl rfl)
theorem dX1_trial_27 : decode cX1_trial 27 = .ok (.invokevirtual 433, 3) := dk_182 1 177 (dk_at dksX1_trial_1 4 rfl rfl)
theorem dX1_trial_30 : decode cX1_trial 30 = .ok (.invokestatic 248, 3) := dk_184 0 248 (dk_at dksX1_trial_1 7 rfl rfl)
theorem dX1_trial_33 : decode cX1_trial 33 = .ok (.goto 10, 3) := dk_167 0 10 (dk_at dksX1_trial_1 10 rfl rfl)
theorem dX1_trial_36 : decode cX1_trial 36 = .ok (.aload_n 0, 1) := dk_42 (dk_at dksX1_trial_1 13 rfl rfl)
theorem dX1_trial_37 : decode cX1_trial 37 = .ok (.getfield 22, 3) := dk_180 0 22 (dk_at dksX1_trial_1 14 rfl rfl)
theorem dX1_trial_40 : decode cX1_trial 40 = .ok (.getfield 436, 3) := dk_180 1 180 (dk_at dksX1_trial_1 17 rfl rfl)
theorem dX1_trial_43 : decode cX1_trial 43 = .ok (.istore 4, 2) := dk_54 4 (dk_at dksX1_trial_1 20 rfl rfl)
theorem dX1_trial_45 : decode cX1_trial 45 = .ok (.aload_n 0, 1) := dk_42 (dk_at dksX1_trial_1 22 rfl rfl)
theorem dX1_trial_46 : decode cX1_trial 46 = .ok (.getfield 22, 3) := dk_180 0 22 (dk_at dksX1_trial_2 0 rfl rfl)
theorem dX1_trial_49 : decode cX1_trial 49 = .ok (.aload_n 0, 1) := dk_42 (dk_at dksX1_trial_2 3 rfl rfl)
theorem dX1_trial_50 : decode cX1_trial 50 = .ok (.getfield 29, 3) := dk_180 0 29 (dk_at dksX1_trial_2 4 rfl rfl)
theorem dX1_trial_53 : decode cX1_trial 53 = .ok (.invokevirtual 153, 3) := dk_182 0 153 (dk_at dksX1_trial_2 7 rfl rfl)
theorem dX1_trial_56 : decode cX1_trial 56 = .ok (.iload 4, 2) := dk_21 4 (dk_at dksX1_trial_2 10 rfl rfl)
theorem dX1_trial_58 : decode cX1_trial 58 = .ok (.ireturn, 1) := dk_172 (dk_at dksX1_trial_2 12 rfl rfl)
abbrev cX1_span : ByteArray := prog_1_method_86_code
def yX1_span : MethodName := ⟨RX1, "span", "(IZ)I"⟩
def dkwX1_span_4 : List UInt8 := [182, 0, 153, 132, 4, 1, 167, 255, 188, 29, 172]
abbrev dktX1_span_4 : List UInt8 := dkwX1_span_4 ++ []
def dkwX1_span_3 : List UInt8 := [167, 0, 14, 29, 42, 180, 0, 22, 180, 1, 180, 184, 1, 57, 62, 42, 180, 0, 22, 42, 180, 0, 29]
abbrev dktX1_span_3 : List UInt8 := dkwX1_span_3 ++ dktX1_span_4
def dkwX1_span_2 : List UInt8 := [27, 4, 182, 1, 70, 54, 5, 28, 153, 0, 17, 29, 42, 180, 0, 22, 180, 1, 180, 184, 1, 79]
abbrev dktX1_span_2 : List UInt8 := dkwX1_span_2 ++ dktX1_span_3
def dkwX1_span_1 : List UInt8 := [19, 1, 143, 62, 4, 54, 4, 21, 4, 16, 6, 163, 0, 67, 42, 180, 0, 22, 21, 4, 181, 1, 183, 42]
abbrev dktX1_span_1 : List UInt8 := dkwX1_span_1 ++ dktX1_span_2
def dkwX1_span_0 : List UInt8 := [27, 184, 1, 115, 42, 180, 0, 29, 42, 180, 0, 22, 182, 0, 153, 28, 153, 0, 7, 3, 167, 0, 6]
abbrev dktX1_span_0 : List UInt8 := dkwX1_span_0 ++ dktX1_span_1
theorem dksX1_span_0 : cX1_span.data.toList.drop 0 = dktX1_span_0 := by decide +kernel
theorem dksX1_span_1 : cX1_span.data.toList.drop 23 = dktX1_span_1 := dk_seg dksX1_span_0 23 rfl rfl
theorem dksX1_span_2 : cX1_span.data.toList.drop 47 = dktX1_span_2 := dk_seg dksX1_span_1 24 rfl rfl
theorem dksX1_span_3 : cX1_span.data.toList.drop 69 = dktX1_span_3 := dk_seg dksX1_span_2 22 rfl rfl
theorem dksX1_span_4 : cX1_span.data.toList.drop 92 = dktX1_span_4 := dk_seg dksX1_span_3 23 rfl rfl
theorem dX1_span_0 : decode cX1_span 0 = .ok (.iload_n 1, 1) := dk_27 (dk_at dksX1_span_0 0 rfl rfl)
theorem dX1_span_1 : decode cX1_span 1 = .ok (.invokestatic 371, 3) := dk_184 1 115 (dk_at dksX1_span_0 1 rfl rfl)
theorem dX1_span_4 : decode cX1_span 4 = .ok (.aload_n 0, 1) := dk_42 (dk_at dksX1_span_0 4 rfl rfl)
theorem dX1_span_5 : decode cX1_span 5 = .ok (.getfield 29, 3) := dk_180 0 29 (dk_at dksX1_span_0 5 rfl rfl)
theorem dX1_span_8 : decode cX1_span 8 = .ok (.aload_n 0, 1) := dk_42 (dk_at dksX1_span_0 8 rfl rfl)
theorem dX1_span_9 : decode cX1_span 9 = .ok (.getfield 22, 3) := dk_180 0 22 (dk_at dksX1_span_0 9 rfl rfl)
theorem dX1_span_12 : decode cX1_span 12 = .ok (.invokevirtual 153, 3) := dk_182 0 153 (dk_at dksX1_span_0 12 rfl rfl)
theorem dX1_span_15 : decode cX1_span 15 = .ok (.iload_n 2, 1) := dk_28 (dk_at dksX1_span_0 15 rfl rfl)
theorem dX1_span_16 : decode cX1_span 16 = .ok (.ifCond .eq 7, 3) := dk_153 0 7 (dk_at dksX1_span_0 16 rfl rfl)
theorem dX1_span_19 : decode cX1_span 19 = .ok (.iconst 0, 1) := dk_3 (dk_at dksX1_span_0 19 rfl rfl)
theorem dX1_span_20 : decode cX1_span 20 = .ok (.goto 6, 3) := dk_167 0 6 (dk_at dksX1_span_0 20 rfl rfl)
theorem dX1_span_23 : decode cX1_span 23 = .ok (.ldc_w 399, 3) := dk_19 1 143 (dk_at dksX1_span_1 0 rfl rfl)
theorem dX1_span_26 : decode cX1_span 26 = .ok (.istore_n 3, 1) := dk_62 (dk_at dksX1_span_1 3 rfl rfl)
theorem dX1_span_27 : decode cX1_span 27 = .ok (.iconst 1, 1) := dk_4 (dk_at dksX1_span_1 4 rfl rfl)
theorem dX1_span_28 : decode cX1_span 28 = .ok (.istore 4, 2) := dk_54 4 (dk_at dksX1_span_1 5 rfl rfl)
theorem dX1_span_30 : decode cX1_span 30 = .ok (.iload 4, 2) := dk_21 4 (dk_at dksX1_span_1 7 rfl rfl)
theorem dX1_span_32 : decode cX1_span 32 = .ok (.bipush 6, 2) := dk_16 6 (dk_at dksX1_span_1 9 rfl rfl)
theorem dX1_span_34 : decode cX1_span 34 = .ok (.if_icmp .gt 67, 3) := dk_163 0 67 (dk_at dksX1_span_1 11 rfl rfl)
theorem dX1_span_37 : decode cX1_span 37 = .ok (.aload_n 0, 1) := dk_42 (dk_at dksX1_span_1 14 rfl rfl)
theorem dX1_span_38 : decode cX1_span 38 = .ok (.getfield 22, 3) := dk_180 0 22 (dk_at dksX1_span_1 15 rfl rfl)
theorem dX1_span_41 : decode cX1_span 41 = .ok (.iload 4, 2) := dk_21 4 (dk_at dksX1_span_1 18 rfl rfl)
theorem dX1_span_43 : decode cX1_span 43 = .ok (.putfield 439, 3) := dk_181 1 183 (dk_at dksX1_span_1 20 rfl rfl)
theorem dX1_span_46 : decode cX1_span 46 = .ok (.aload_n 0, 1) := dk_42 (dk_at dksX1_span_1 23 rfl rfl)
theorem dX1_span_47 : decode cX1_span 47 = .ok (.iload_n 1, 1) := dk_27 (dk_at dksX1_span_2 0 rfl rfl)
theorem dX1_span_48 : decode cX1_span 48 = .ok (.iconst 1, 1) := dk_4 (dk_at dksX1_span_2 1 rfl rfl)
theorem dX1_span_49 : decode cX1_span 49 = .ok (.invokevirtual 326, 3) := dk_182 1 70 (dk_at dksX1_span_2 2 rfl rfl)
theorem dX1_span_52 : decode cX1_span 52 = .ok (.istore 5, 2) := dk_54 5 (dk_at dksX1_span_2 5 rfl rfl)
theorem dX1_span_54 : decode cX1_span 54 = .ok (.iload_n 2, 1) := dk_28 (dk_at dksX1_span_2 7 rfl rfl)
theorem dX1_span_55 : decode cX1_span 55 = .ok (.ifCond .eq 17, 3) := dk_153 0 17 (dk_at dksX1_span_2 8 rfl rfl)
theorem dX1_span_58 : decode cX1_span 58 = .ok (.iload_n 3, 1) := dk_29 (dk_at dksX1_span_2 11 rfl rfl)
theorem dX1_span_59 : decode cX1_span 59 = .ok (.aload_n 0, 1) := dk_42 (dk_at dksX1_span_2 12 rfl rfl)
theorem dX1_span_60 : decode cX1_span 60 = .ok (.getfield 22, 3) := dk_180 0 22 (dk_at dksX1_span_2 13 rfl rfl)
theorem dX1_span_63 : decode cX1_span 63 = .ok (.getfield 436, 3) := dk_180 1 180 (dk_at dksX1_span_2 16 rfl rfl)
theorem dX1_span_66 : decode cX1_span 66 = .ok (.invokestatic 335, 3) := dk_184 1 79 (dk_at dksX1_span_2 19 rfl rfl)
theorem dX1_span_69 : decode cX1_span 69 = .ok (.goto 14, 3) := dk_167 0 14 (dk_at dksX1_span_3 0 rfl rfl)
theorem dX1_span_72 : decode cX1_span 72 = .ok (.iload_n 3, 1) := dk_29 (dk_at dksX1_span_3 3 rfl rfl)
theorem dX1_span_73 : decode cX1_span 73 = .ok (.aload_n 0, 1) := dk_42 (dk_at dksX1_span_3 4 rfl rfl)
theorem dX1_span_74 : decode cX1_span 74 = .ok (.getfield 22, 3) := dk_180 0 22 (dk_at dksX1_span_3 5 rfl rfl)
theorem dX1_span_77 : decode cX1_span 77 = .ok (.getfield 436, 3) := dk_180 1 180 (dk_at dksX1_span_3 8 rfl rfl)
theorem dX1_span_80 : decode cX1_span 80 = .ok (.invokestatic 313, 3) := dk_184 1 57 (dk_at dksX1_span_3 11 rfl rfl)
theorem dX1_span_83 : decode cX1_span 83 = .ok (.istore_n 3, 1) := dk_62 (dk_at dksX1_span_3 14 rfl rfl)
theorem dX1_span_84 : decode cX1_span 84 = .ok (.aload_n 0, 1) := dk_42 (dk_at dksX1_span_3 15 rfl rfl)
theorem dX1_span_85 : decode cX1_span 85 = .ok (.getfield 22, 3) := dk_180 0 22 (dk_at dksX1_span_3 16 rfl rfl)
theorem dX1_span_88 : decode cX1_span 88 = .ok (.aload_n 0, 1) := dk_42 (dk_at dksX1_span_3 19 rfl rfl)
theorem dX1_span_89 : decode cX1_span 89 = .ok (.getfield 29, 3) := dk_180 0 29 (dk_at dksX1_span_3 20 rfl rfl)
theorem dX1_span_92 : decode cX1_span 92 = .ok (.invokevirtual 153, 3) := dk_182 0 153 (dk_at dksX1_span_4 0 rfl rfl)
theorem dX1_span_95 : decode cX1_span 95 = .ok (.iinc 4 1, 3) := dk_132 4 1 (dk_at dksX1_span_4 3 rfl rfl)
theorem dX1_span_98 : decode cX1_span 98 = .ok (.goto (-68), 3) := dk_167 255 188 (dk_at dksX1_span_4 6 rfl rfl)
theorem dX1_span_101 : decode cX1_span 101 = .ok (.iload_n 3, 1) := dk_29 (dk_at dksX1_span_4 9 rfl rfl)
theorem dX1_span_102 : decode cX1_span 102 = .ok (.ireturn, 1) := dk_172 (dk_at dksX1_span_4 10 rfl rfl)
abbrev cX1_led : ByteArray := prog_1_method_87_code
def yX1_led : MethodName := ⟨RX1, "led", "(IZ)I"⟩
def dkwX1_led_3 : List UInt8 := [132, 5, 1, 167, 255, 198, 28, 153, 0, 8, 21, 4, 167, 0, 4, 29, 172]
abbrev dktX1_led_3 : List UInt8 := dkwX1_led_3 ++ []
def dkwX1_led_2 : List UInt8 := [21, 4, 2, 160, 0, 16, 42, 180, 0, 22, 21, 5, 3, 182, 1, 189, 167, 0, 5, 21, 4, 54, 4]
abbrev dktX1_led_2 : List UInt8 := dkwX1_led_2 ++ dktX1_led_3
def dkwX1_led_1 : List UInt8 := [153, 0, 52, 42, 180, 0, 22, 21, 5, 4, 182, 1, 189, 27, 159, 0, 6, 167, 0, 29, 132, 3, 1]
abbrev dktX1_led_1 : List UInt8 := dkwX1_led_1 ++ dktX1_led_2
def dkwX1_led_0 : List UInt8 := [42, 27, 182, 0, 240, 87, 3, 62, 2, 54, 4, 3, 54, 5, 42, 180, 0, 22, 21, 5, 182, 1, 186]
abbrev dktX1_led_0 : List UInt8 := dkwX1_led_0 ++ dktX1_led_1
theorem dksX1_led_0 : cX1_led.data.toList.drop 0 = dktX1_led_0 := by decide +kernel
theorem dksX1_led_1 : cX1_led.data.toList.drop 23 = dktX1_led_1 := dk_seg dksX1_led_0 23 rfl rfl
theorem dksX1_led_2 : cX1_led.data.toList.drop 46 = dktX1_led_2 := dk_seg dksX1_led_1 23 rfl rfl
theorem dksX1_led_3 : cX1_led.data.toList.drop 69 = dktX1_led_3 := dk_seg dksX1_led_2 23 rfl rfl
theorem dX1_led_0 : decode cX1_led 0 = .ok (.aload_n 0, 1) := dk_42 (dk_at dksX1_led_0 0 rfl rfl)
theorem dX1_led_1 : decode cX1_led 1 = .ok (.iload_n 1, 1) := dk_27 (dk_at dksX1_led_0 1 rfl rfl)
theorem dX1_led_2 : decode cX1_led 2 = .ok (.invokevirtual 240, 3) := dk_182 0 240 (dk_at dksX1_led_0 2 rfl rfl)
theorem dX1_led_5 : decode cX1_led 5 = .ok (.pop, 1) := dk_87 (dk_at dksX1_led_0 5 rfl rfl)
theorem dX1_led_6 : decode cX1_led 6 = .ok (.iconst 0, 1) := dk_3 (dk_at dksX1_led_0 6 rfl rfl)
theorem dX1_led_7 : decode cX1_led 7 = .ok (.istore_n 3, 1) := dk_62 (dk_at dksX1_led_0 7 rfl rfl)
theorem dX1_led_8 : decode cX1_led 8 = .ok (.iconst (-1), 1) := dk_2 (dk_at dksX1_led_0 8 rfl rfl)
theorem dX1_led_9 : decode cX1_led 9 = .ok (.istore 4, 2) := dk_54 4 (dk_at dksX1_led_0 9 rfl rfl)
theorem dX1_led_11 : decode cX1_led 11 = .ok (.iconst 0, 1) := dk_3 (dk_at dksX1_led_0 11 rfl rfl)
theorem dX1_led_12 : decode cX1_led 12 = .ok (.istore 5, 2) := dk_54 5 (dk_at dksX1_led_0 12 rfl rfl)
theorem dX1_led_14 : decode cX1_led 14 = .ok (.aload_n 0, 1) := dk_42 (dk_at dksX1_led_0 14 rfl rfl)
theorem dX1_led_15 : decode cX1_led 15 = .ok (.getfield 22, 3) := dk_180 0 22 (dk_at dksX1_led_0 15 rfl rfl)
theorem dX1_led_18 : decode cX1_led 18 = .ok (.iload 5, 2) := dk_21 5 (dk_at dksX1_led_0 18 rfl rfl)
theorem dX1_led_20 : decode cX1_led 20 = .ok (.invokevirtual 442, 3) := dk_182 1 186 (dk_at dksX1_led_0 20 rfl rfl)
theorem dX1_led_23 : decode cX1_led 23 = .ok (.ifCond .eq 52, 3) := dk_153 0 52 (dk_at dksX1_led_1 0 rfl rfl)
theorem dX1_led_26 : decode cX1_led 26 = .ok (.aload_n 0, 1) := dk_42 (dk_at dksX1_led_1 3 rfl rfl)
theorem dX1_led_27 : decode cX1_led 27 = .ok (.getfield 22, 3) := dk_180 0 22 (dk_at dksX1_led_1 4 rfl rfl)
theorem dX1_led_30 : decode cX1_led 30 = .ok (.iload 5, 2) := dk_21 5 (dk_at dksX1_led_1 7 rfl rfl)
theorem dX1_led_32 : decode cX1_led 32 = .ok (.iconst 1, 1) := dk_4 (dk_at dksX1_led_1 9 rfl rfl)
theorem dX1_led_33 : decode cX1_led 33 = .ok (.invokevirtual 445, 3) := dk_182 1 189 (dk_at dksX1_led_1 10 rfl rfl)
theorem dX1_led_36 : decode cX1_led 36 = .ok (.iload_n 1, 1) := dk_27 (dk_at dksX1_led_1 13 rfl rfl)
theorem dX1_led_37 : decode cX1_led 37 = .ok (.if_icmp .eq 6, 3) := dk_159 0 6 (dk_at dksX1_led_1 14 rfl rfl)
theorem dX1_led_40 : decode cX1_led 40 = .ok (.goto 29, 3) := dk_167 0 29 (dk_at dksX1_led_1 17 rfl rfl)
theorem dX1_led_43 : decode cX1_led 43 = .ok (.iinc 3 1, 3) := dk_132 3 1 (dk_at dksX1_led_1 20 rfl rfl)
theorem dX1_led_46 : decode cX1_led 46 = .ok (.iload 4, 2) := dk_21 4 (dk_at dksX1_led_2 0 rfl rfl)
theorem dX1_led_48 : decode cX1_led 48 = .ok (.iconst (-1), 1) := dk_2 (dk_at dksX1_led_2 2 rfl rfl)
theorem dX1_led_49 : decode cX1_led 49 = .ok (.if_icmp .ne 16, 3) := dk_160 0 16 (dk_at dksX1_led_2 3 rfl rfl)
theorem dX1_led_52 : decode cX1_led 52 = .ok (.aload_n 0, 1) := dk_42 (dk_at dksX1_led_2 6 rfl rfl)
theorem dX1_led_53 : decode cX1_led 53 = .ok (.getfield 22, 3) := dk_180 0 22 (dk_at dksX1_led_2 7 rfl rfl)
theorem dX1_led_56 : decode cX1_led 56 = .ok (.iload 5, 2) := dk_21 5 (dk_at dksX1_led_2 10 rfl rfl)
theorem dX1_led_58 : decode cX1_led 58 = .ok (.iconst 0, 1) := dk_3 (dk_at dksX1_led_2 12 rfl rfl)
theorem dX1_led_59 : decode cX1_led 59 = .ok (.invokevirtual 445, 3) := dk_182 1 189 (dk_at dksX1_led_2 13 rfl rfl)
theorem dX1_led_62 : decode cX1_led 62 = .ok (.goto 5, 3) := dk_167 0 5 (dk_at dksX1_led_2 16 rfl rfl)
theorem dX1_led_65 : decode cX1_led 65 = .ok (.iload 4, 2) := dk_21 4 (dk_at dksX1_led_2 19 rfl rfl)
theorem dX1_led_67 : decode cX1_led 67 = .ok (.istore 4, 2) := dk_54 4 (dk_at dksX1_led_2 21 rfl rfl)
theorem dX1_led_69 : decode cX1_led 69 = .ok (.iinc 5 1, 3) := dk_132 5 1 (dk_at dksX1_led_3 0 rfl rfl)
theorem dX1_led_72 : decode cX1_led 72 = .ok (.goto (-58), 3) := dk_167 255 198 (dk_at dksX1_led_3 3 rfl rfl)
theorem dX1_led_75 : decode cX1_led 75 = .ok (.iload_n 2, 1) := dk_28 (dk_at dksX1_led_3 6 rfl rfl)
theorem dX1_led_76 : decode cX1_led 76 = .ok (.ifCond .eq 8, 3) := dk_153 0 8 (dk_at dksX1_led_3 7 rfl rfl)
theorem dX1_led_79 : decode cX1_led 79 = .ok (.iload 4, 2) := dk_21 4 (dk_at dksX1_led_3 10 rfl rfl)
theorem dX1_led_81 : decode cX1_led 81 = .ok (.goto 4, 3) := dk_167 0 4 (dk_at dksX1_led_3 12 rfl rfl)
theorem dX1_led_84 : decode cX1_led 84 = .ok (.iload_n 3, 1) := dk_29 (dk_at dksX1_led_3 15 rfl rfl)
theorem dX1_led_85 : decode cX1_led 85 = .ok (.ireturn, 1) := dk_172 (dk_at dksX1_led_3 16 rfl rfl)
abbrev cX1_log : ByteArray := prog_1_method_88_code
def yX1_log : MethodName := ⟨RX1, "log", "(II)I"⟩
def dkwX1_log_0 : List UInt8 := [28, 3, 6, 184, 0, 104, 184, 1, 25, 42, 180, 0, 22, 27, 28, 182, 1, 189, 172]
abbrev dktX1_log_0 : List UInt8 := dkwX1_log_0 ++ []
theorem dksX1_log_0 : cX1_log.data.toList.drop 0 = dktX1_log_0 := by decide +kernel
theorem dX1_log_0 : decode cX1_log 0 = .ok (.iload_n 2, 1) := dk_28 (dk_at dksX1_log_0 0 rfl rfl)
theorem dX1_log_1 : decode cX1_log 1 = .ok (.iconst 0, 1) := dk_3 (dk_at dksX1_log_0 1 rfl rfl)
theorem dX1_log_2 : decode cX1_log 2 = .ok (.iconst 3, 1) := dk_6 (dk_at dksX1_log_0 2 rfl rfl)
theorem dX1_log_3 : decode cX1_log 3 = .ok (.invokestatic 104, 3) := dk_184 0 104 (dk_at dksX1_log_0 3 rfl rfl)
theorem dX1_log_6 : decode cX1_log 6 = .ok (.invokestatic 281, 3) := dk_184 1 25 (dk_at dksX1_log_0 6 rfl rfl)
theorem dX1_log_9 : decode cX1_log 9 = .ok (.aload_n 0, 1) := dk_42 (dk_at dksX1_log_0 9 rfl rfl)
theorem dX1_log_10 : decode cX1_log 10 = .ok (.getfield 22, 3) := dk_180 0 22 (dk_at dksX1_log_0 10 rfl rfl)
theorem dX1_log_13 : decode cX1_log 13 = .ok (.iload_n 1, 1) := dk_27 (dk_at dksX1_log_0 13 rfl rfl)
theorem dX1_log_14 : decode cX1_log 14 = .ok (.iload_n 2, 1) := dk_28 (dk_at dksX1_log_0 14 rfl rfl)
theorem dX1_log_15 : decode cX1_log 15 = .ok (.invokevirtual 445, 3) := dk_182 1 189 (dk_at dksX1_log_0 15 rfl rfl)
theorem dX1_log_18 : decode cX1_log 18 = .ok (.ireturn, 1) := dk_172 (dk_at dksX1_log_0 18 rfl rfl)
theorem q152 : (Jvm.Cond.initialized "GuestView") ∈ lw_all := lw_g (lw_at lw_m1 1 rfl) rfl
theorem q185 : (Jvm.Cond.instantiable "GuestView" (17 : Nat)) ∈ lw_all := lw_g (lw_at lw_m1 34 rfl) rfl
theorem q187 : (Jvm.Cond.instanceMethod ({ cls := "GuestView", name := "<init>", desc := "()V" } : Jvm.MethodName)) ∈ lw_all := lw_g (lw_at lw_m1 36 rfl) rfl
theorem q188 : (Jvm.Cond.code ({ cls := "GuestView", name := "<init>", desc := "()V" } : Jvm.MethodName) prog_1_method_2_code (1 : Nat) (Option.none : Option Jvm.ClassFile.FieldType)) ∈ lw_all := lw_g (lw_at lw_m1 37 rfl) rfl
theorem q189 : (Jvm.Cond.methodLink "GuestView" (3 : Nat) ({ cls := "GuestView", name := "<init>", desc := "(I[I)V" } : Jvm.MethodName)) ∈ lw_all := lw_g (lw_at lw_m1 38 rfl) rfl
theorem q190 : (Jvm.Cond.instanceMethod ({ cls := "GuestView", name := "<init>", desc := "(I[I)V" } : Jvm.MethodName)) ∈ lw_all := lw_g (lw_at lw_m1 39 rfl) rfl
theorem q191 : (Jvm.Cond.code ({ cls := "GuestView", name := "<init>", desc := "(I[I)V" } : Jvm.MethodName) prog_1_method_3_code (4 : Nat) (Option.none : Option Jvm.ClassFile.FieldType)) ∈ lw_all := lw_g (lw_at lw_m1 40 rfl) rfl
theorem q192 : (Jvm.Cond.methodLink "GuestView" (7 : Nat) ({ cls := "java/lang/Object", name := "<init>", desc := "()V" } : Jvm.MethodName)) ∈ lw_all := lw_g (lw_at lw_m1 41 rfl) rfl
theorem q195 : (Jvm.Cond.classLink "GuestView" (12 : Nat) "GuestView$Reader") ∈ lw_all := lw_g (lw_at lw_m1 44 rfl) rfl
theorem q197 : (Jvm.Cond.methodLinkNest "GuestView" (14 : Nat) ({ cls := "GuestView$Reader", name := "<init>", desc := "()V" } : Jvm.MethodName) "GuestView") ∈ lw_tbl := lw_at lw_m1 46 rfl
theorem q249 : (Jvm.Cond.fieldLinkNest "GuestView" (290 : Nat) "GuestView$Machine" "cells" "[I" "GuestView") ∈ lw_tbl := lw_at lw_m1 98 rfl
theorem q252 : (Jvm.Cond.fieldLinkNest "GuestView" (284 : Nat) "GuestView$Machine" "\x72" "I" "GuestView") ∈ lw_tbl := lw_at lw_m1 101 rfl
theorem q256 : (Jvm.Cond.fieldLinkNest "GuestView" (185 : Nat) "GuestView$Machine" "mode" "I" "GuestView") ∈ lw_tbl := lw_at lw_m1 105 rfl
theorem q260 : (Jvm.Cond.fieldLinkNest "GuestView" (188 : Nat) "GuestView$Machine" "base" "I" "GuestView") ∈ lw_tbl := lw_at lw_m1 109 rfl
theorem q263 : (Jvm.Cond.fieldLinkNest "GuestView" (213 : Nat) "GuestView$Machine" "clock" "I" "GuestView") ∈ lw_tbl := lw_at lw_m1 112 rfl
theorem q268 : (Jvm.Cond.fieldLinkNest "GuestView" (287 : Nat) "GuestView$Machine" "skips" "Z" "GuestView") ∈ lw_tbl := lw_at lw_m1 117 rfl
theorem q288 : (Jvm.Cond.fieldLinkNest "GuestView" (300 : Nat) "GuestView$Guest" "machine" "LGuestView$Machine;" "GuestView") ∈ lw_tbl := lw_at lw_m1 137 rfl
theorem q291 : (Jvm.Cond.fieldLinkNest "GuestView" (297 : Nat) "GuestView$Guest" "pc" "I" "GuestView") ∈ lw_tbl := lw_at lw_m1 140 rfl
theorem q308 : (Jvm.Cond.fieldLinkNest "GuestView" (278 : Nat) "GuestView$Op" "kinds" "[I" "GuestView") ∈ lw_tbl := lw_at lw_m1 157 rfl
theorem q311 : (Jvm.Cond.fieldLinkNest "GuestView" (275 : Nat) "GuestView$Op" "numbers" "[I" "GuestView") ∈ lw_tbl := lw_at lw_m1 160 rfl
theorem q313 : (Jvm.Cond.fieldLinkNest "GuestView" (233 : Nat) "GuestView$Op" "witness" "[I" "GuestView") ∈ lw_tbl := lw_at lw_m1 162 rfl
theorem q318 : (Jvm.Cond.fieldLinkNest "GuestView" (252 : Nat) "GuestView$Op" "many" "I" "GuestView") ∈ lw_tbl := lw_at lw_m1 167 rfl
theorem q322 : (Jvm.Cond.fieldLinkNest "GuestView" (199 : Nat) "GuestView$Op" "guarded" "Z" "GuestView") ∈ lw_tbl := lw_at lw_m1 171 rfl
theorem q325 : (Jvm.Cond.fieldLinkNest "GuestView" (253 : Nat) "GuestView$Op" "patched" "Z" "GuestView") ∈ lw_tbl := lw_at lw_m1 174 rfl
theorem q340 : (Jvm.Cond.fieldLinkNest "GuestView" (112 : Nat) "GuestView$State" "ops" "[LGuestView$Op;" "GuestView") ∈ lw_tbl := lw_at lw_m1 189 rfl
theorem q343 : (Jvm.Cond.fieldLinkNest "GuestView" (174 : Nat) "GuestView$State" "law" "[LGuestView$Line;" "GuestView") ∈ lw_tbl := lw_at lw_m1 192 rfl
theorem q348 : (Jvm.Cond.fieldLinkNest "GuestView" (293 : Nat) "GuestView$State" "program" "[I" "GuestView") ∈ lw_tbl := lw_at lw_m1 197 rfl
theorem q350 : (Jvm.Cond.fieldLinkNest "GuestView" (73 : Nat) "GuestView$State" "first" "[I" "GuestView") ∈ lw_tbl := lw_at lw_m1 199 rfl
theorem q353 : (Jvm.Cond.fieldLinkNest "GuestView" (76 : Nat) "GuestView$State" "bare" "LGuestView$Guest;" "GuestView") ∈ lw_tbl := lw_at lw_m1 202 rfl
theorem q355 : (Jvm.Cond.fieldLinkNest "GuestView" (79 : Nat) "GuestView$State" "hosted" "LGuestView$Guest;" "GuestView") ∈ lw_tbl := lw_at lw_m1 204 rfl
theorem q357 : (Jvm.Cond.fieldLinkNest "GuestView" (101 : Nat) "GuestView$State" "many" "I" "GuestView") ∈ lw_tbl := lw_at lw_m1 206 rfl
theorem q361 : (Jvm.Cond.fieldLinkNest "GuestView" (272 : Nat) "GuestView$State" "programMany" "I" "GuestView") ∈ lw_tbl := lw_at lw_m1 210 rfl
theorem q363 : (Jvm.Cond.fieldLinkNest "GuestView" (167 : Nat) "GuestView$State" "lawMany" "I" "GuestView") ∈ lw_tbl := lw_at lw_m1 212 rfl
theorem q365 : (Jvm.Cond.fieldLinkNest "GuestView" (147 : Nat) "GuestView$State" "texts" "I" "GuestView") ∈ lw_tbl := lw_at lw_m1 214 rfl
theorem q368 : (Jvm.Cond.fieldLinkNest "GuestView" (338 : Nat) "GuestView$State" "vector" "I" "GuestView") ∈ lw_tbl := lw_at lw_m1 217 rfl
theorem q371 : (Jvm.Cond.fieldLinkNest "GuestView" (341 : Nat) "GuestView$State" "shift" "I" "GuestView") ∈ lw_tbl := lw_at lw_m1 220 rfl
theorem q374 : (Jvm.Cond.fieldLinkNest "GuestView" (344 : Nat) "GuestView$State" "cost" "I" "GuestView") ∈ lw_tbl := lw_at lw_m1 223 rfl
theorem q377 : (Jvm.Cond.fieldLinkNest "GuestView" (347 : Nat) "GuestView$State" "alarm" "I" "GuestView") ∈ lw_tbl := lw_at lw_m1 226 rfl
theorem q379 : (Jvm.Cond.fieldLinkNest "GuestView" (450 : Nat) "GuestView$State" "tick" "I" "GuestView") ∈ lw_tbl := lw_at lw_m1 228 rfl
theorem q382 : (Jvm.Cond.fieldLinkNest "GuestView" (436 : Nat) "GuestView$State" "purse" "I" "GuestView") ∈ lw_tbl := lw_at lw_m1 231 rfl
theorem q384 : (Jvm.Cond.fieldLinkNest "GuestView" (439 : Nat) "GuestView$State" "seed" "I" "GuestView") ∈ lw_tbl := lw_at lw_m1 233 rfl
theorem q386 : (Jvm.Cond.fieldLinkNest "GuestView" (453 : Nat) "GuestView$State" "rowMany" "I" "GuestView") ∈ lw_tbl := lw_at lw_m1 235 rfl
theorem q485 : (Jvm.Cond.fieldLinkNest "GuestView" (130 : Nat) "GuestView$Wrong" "place" "I" "GuestView") ∈ lw_tbl := lw_at lw_m2 94 rfl
theorem q502 : (Jvm.Cond.fieldLinkNest "GuestView" (119 : Nat) "GuestView$Reader" "tape" "[B" "GuestView") ∈ lw_tbl := lw_at lw_m2 111 rfl
theorem q507 : (Jvm.Cond.fieldLinkNest "GuestView" (170 : Nat) "GuestView$Reader" "row" "[LGuestView$Line;" "GuestView") ∈ lw_tbl := lw_at lw_m2 116 rfl
theorem q510 : (Jvm.Cond.fieldLinkNest "GuestView" (123 : Nat) "GuestView$Reader" "size" "I" "GuestView") ∈ lw_tbl := lw_at lw_m2 119 rfl
theorem q537 : (Jvm.Cond.classLink "GuestView" (19 : Nat) "GuestView$State") ∈ lw_all := lw_g (lw_at lw_m2 146 rfl) rfl
theorem q538 : (Jvm.Cond.methodLinkNest "GuestView" (21 : Nat) ({ cls := "GuestView$State", name := "<init>", desc := "()V" } : Jvm.MethodName) "GuestView") ∈ lw_tbl := lw_at lw_m2 147 rfl
theorem q539 : (Jvm.Cond.classLink "GuestView" (32 : Nat) "GuestView$Machine") ∈ lw_all := lw_g (lw_at lw_m2 148 rfl) rfl
theorem q540 : (Jvm.Cond.methodLinkNest "GuestView" (34 : Nat) ({ cls := "GuestView$Machine", name := "<init>", desc := "()V" } : Jvm.MethodName) "GuestView") ∈ lw_tbl := lw_at lw_m2 149 rfl
theorem q541 : (Jvm.Cond.classLink "GuestView" (42 : Nat) "GuestView$Guest") ∈ lw_all := lw_g (lw_at lw_m2 150 rfl) rfl
theorem q542 : (Jvm.Cond.methodLinkNest "GuestView" (44 : Nat) ({ cls := "GuestView$Guest", name := "<init>", desc := "()V" } : Jvm.MethodName) "GuestView") ∈ lw_tbl := lw_at lw_m2 151 rfl
theorem q544 : (Jvm.Cond.methodLink "GuestView" (82 : Nat) ({ cls := "GuestView$State", name := "boots", desc := "(LGuestView$Guest;LGuestView$Guest;)V" } : Jvm.MethodName)) ∈ lw_all := lw_g (lw_at lw_m2 153 rfl) rfl
theorem q552 : (Jvm.Cond.fieldLink "GuestView" (15 : Nat) "GuestView" "reader" "LGuestView$Reader;") ∈ lw_all := lw_g (lw_at lw_m2 161 rfl) rfl
theorem q553 : (Jvm.Cond.fieldLink "GuestView" (22 : Nat) "GuestView" "now" "LGuestView$State;") ∈ lw_all := lw_g (lw_at lw_m2 162 rfl) rfl
theorem q554 : (Jvm.Cond.fieldLink "GuestView" (26 : Nat) "GuestView" "image" "LGuestView$State;") ∈ lw_all := lw_g (lw_at lw_m2 163 rfl) rfl
theorem q555 : (Jvm.Cond.fieldLink "GuestView" (29 : Nat) "GuestView" "before" "LGuestView$State;") ∈ lw_all := lw_g (lw_at lw_m2 164 rfl) rfl
theorem q556 : (Jvm.Cond.fieldLink "GuestView" (69 : Nat) "GuestView" "acts" "[LGuestView$State;") ∈ lw_all := lw_g (lw_at lw_m2 165 rfl) rfl
theorem q557 : (Jvm.Cond.fieldLink "GuestView" (35 : Nat) "GuestView" "one" "LGuestView$Machine;") ∈ lw_all := lw_g (lw_at lw_m2 166 rfl) rfl
theorem q558 : (Jvm.Cond.fieldLink "GuestView" (39 : Nat) "GuestView" "other" "LGuestView$Machine;") ∈ lw_all := lw_g (lw_at lw_m2 167 rfl) rfl
theorem q559 : (Jvm.Cond.fieldLink "GuestView" (45 : Nat) "GuestView" "bareTried" "LGuestView$Guest;") ∈ lw_all := lw_g (lw_at lw_m2 168 rfl) rfl
theorem q560 : (Jvm.Cond.fieldLink "GuestView" (49 : Nat) "GuestView" "hostedTried" "LGuestView$Guest;") ∈ lw_all := lw_g (lw_at lw_m2 169 rfl) rfl
theorem q561 : (Jvm.Cond.fieldLink "GuestView" (52 : Nat) "GuestView" "wrongs" "[I") ∈ lw_all := lw_g (lw_at lw_m2 170 rfl) rfl
theorem q562 : (Jvm.Cond.fieldLink "GuestView" (56 : Nat) "GuestView" "best" "[I") ∈ lw_all := lw_g (lw_at lw_m2 171 rfl) rfl
theorem q563 : (Jvm.Cond.fieldLink "GuestView" (59 : Nat) "GuestView" "program" "[I") ∈ lw_all := lw_g (lw_at lw_m2 172 rfl) rfl
theorem q564 : (Jvm.Cond.fieldLink "GuestView" (62 : Nat) "GuestView" "leads" "[I") ∈ lw_all := lw_g (lw_at lw_m2 173 rfl) rfl
theorem q565 : (Jvm.Cond.fieldLink "GuestView" (65 : Nat) "GuestView" "wrongAt" "I") ∈ lw_all := lw_g (lw_at lw_m2 174 rfl) rfl
theorem q566 : (Jvm.Cond.fieldLink "GuestView" (157 : Nat) "GuestView" "actMany" "I") ∈ lw_all := lw_g (lw_at lw_m2 175 rfl) rfl
theorem q567 : (Jvm.Cond.fieldLink "GuestView" (310 : Nat) "GuestView" "actAt" "I") ∈ lw_all := lw_g (lw_at lw_m2 176 rfl) rfl
theorem q568 : (Jvm.Cond.fieldLink "GuestView" (447 : Nat) "GuestView" "kept" "Z") ∈ lw_all := lw_g (lw_at lw_m2 177 rfl) rfl
theorem q569 : (Jvm.Cond.laysFinal "GuestView" "GuestView" "reader" "LGuestView$Reader;") ∈ lw_all := lw_g (lw_at lw_m2 178 rfl) rfl
theorem q570 : (Jvm.Cond.soleField "GuestView" "reader") ∈ lw_all := lw_g (lw_at lw_m2 179 rfl) rfl
theorem q571 : (Jvm.Cond.laysFinal "GuestView" "GuestView" "now" "LGuestView$State;") ∈ lw_all := lw_g (lw_at lw_m2 180 rfl) rfl
theorem q572 : (Jvm.Cond.soleField "GuestView" "now") ∈ lw_all := lw_g (lw_at lw_m2 181 rfl) rfl
theorem q573 : (Jvm.Cond.laysFinal "GuestView" "GuestView" "image" "LGuestView$State;") ∈ lw_all := lw_g (lw_at lw_m2 182 rfl) rfl
theorem q574 : (Jvm.Cond.soleField "GuestView" "image") ∈ lw_all := lw_g (lw_at lw_m2 183 rfl) rfl
theorem q575 : (Jvm.Cond.laysFinal "GuestView" "GuestView" "before" "LGuestView$State;") ∈ lw_all := lw_g (lw_at lw_m2 184 rfl) rfl
theorem q576 : (Jvm.Cond.soleField "GuestView" "before") ∈ lw_all := lw_g (lw_at lw_m2 185 rfl) rfl
theorem q577 : (Jvm.Cond.laysFinal "GuestView" "GuestView" "acts" "[LGuestView$State;") ∈ lw_all := lw_g (lw_at lw_m2 186 rfl) rfl
theorem q578 : (Jvm.Cond.soleField "GuestView" "acts") ∈ lw_all := lw_g (lw_at lw_m2 187 rfl) rfl
theorem q579 : (Jvm.Cond.laysFinal "GuestView" "GuestView" "one" "LGuestView$Machine;") ∈ lw_all := lw_g (lw_at lw_m2 188 rfl) rfl
theorem q580 : (Jvm.Cond.soleField "GuestView" "one") ∈ lw_all := lw_g (lw_at lw_m2 189 rfl) rfl
theorem q581 : (Jvm.Cond.laysFinal "GuestView" "GuestView" "other" "LGuestView$Machine;") ∈ lw_all := lw_g (lw_at lw_m2 190 rfl) rfl
theorem q582 : (Jvm.Cond.soleField "GuestView" "other") ∈ lw_all := lw_g (lw_at lw_m2 191 rfl) rfl
theorem q583 : (Jvm.Cond.laysFinal "GuestView" "GuestView" "bareTried" "LGuestView$Guest;") ∈ lw_all := lw_g (lw_at lw_m2 192 rfl) rfl
theorem q584 : (Jvm.Cond.soleField "GuestView" "bareTried") ∈ lw_all := lw_g (lw_at lw_m2 193 rfl) rfl
theorem q585 : (Jvm.Cond.laysFinal "GuestView" "GuestView" "hostedTried" "LGuestView$Guest;") ∈ lw_all := lw_g (lw_at lw_m2 194 rfl) rfl
theorem q586 : (Jvm.Cond.soleField "GuestView" "hostedTried") ∈ lw_all := lw_g (lw_at lw_m2 195 rfl) rfl
theorem q587 : (Jvm.Cond.laysFinal "GuestView" "GuestView" "wrongs" "[I") ∈ lw_all := lw_g (lw_at lw_m2 196 rfl) rfl
theorem q588 : (Jvm.Cond.soleField "GuestView" "wrongs") ∈ lw_all := lw_g (lw_at lw_m2 197 rfl) rfl
theorem q589 : (Jvm.Cond.laysFinal "GuestView" "GuestView" "best" "[I") ∈ lw_all := lw_g (lw_at lw_m2 198 rfl) rfl
theorem q590 : (Jvm.Cond.soleField "GuestView" "best") ∈ lw_all := lw_g (lw_at lw_m2 199 rfl) rfl
theorem q591 : (Jvm.Cond.laysFinal "GuestView" "GuestView" "program" "[I") ∈ lw_all := lw_g (lw_at lw_m2 200 rfl) rfl
theorem q592 : (Jvm.Cond.soleField "GuestView" "program") ∈ lw_all := lw_g (lw_at lw_m2 201 rfl) rfl
theorem q593 : (Jvm.Cond.laysFinal "GuestView" "GuestView" "leads" "[I") ∈ lw_all := lw_g (lw_at lw_m2 202 rfl) rfl
theorem q594 : (Jvm.Cond.soleField "GuestView" "leads") ∈ lw_all := lw_g (lw_at lw_m2 203 rfl) rfl
theorem q595 : (Jvm.Cond.lays "GuestView" "GuestView" "wrongAt" "I") ∈ lw_all := lw_g (lw_at lw_m2 204 rfl) rfl
theorem q596 : (Jvm.Cond.soleField "GuestView" "wrongAt") ∈ lw_all := lw_g (lw_at lw_m2 205 rfl) rfl
theorem q597 : (Jvm.Cond.lays "GuestView" "GuestView" "actMany" "I") ∈ lw_all := lw_g (lw_at lw_m2 206 rfl) rfl
theorem q598 : (Jvm.Cond.soleField "GuestView" "actMany") ∈ lw_all := lw_g (lw_at lw_m2 207 rfl) rfl
theorem q599 : (Jvm.Cond.lays "GuestView" "GuestView" "actAt" "I") ∈ lw_all := lw_g (lw_at lw_m2 208 rfl) rfl
theorem q600 : (Jvm.Cond.soleField "GuestView" "actAt") ∈ lw_all := lw_g (lw_at lw_m2 209 rfl) rfl
theorem q601 : (Jvm.Cond.lays "GuestView" "GuestView" "kept" "Z") ∈ lw_all := lw_g (lw_at lw_m2 210 rfl) rfl
theorem q602 : (Jvm.Cond.soleField "GuestView" "kept") ∈ lw_all := lw_g (lw_at lw_m2 211 rfl) rfl
theorem q603 : (Jvm.Cond.superclass "GuestView" "java/lang/Object") ∈ lw_all := lw_g (lw_at lw_m2 212 rfl) rfl
theorem q605 : (Jvm.Cond.instanceMethod ({ cls := "GuestView", name := "feed", desc := "(IIIII)I" } : Jvm.MethodName)) ∈ lw_all := lw_g (lw_at lw_m2 214 rfl) rfl
theorem q606 : (Jvm.Cond.selects "GuestView" ({ cls := "GuestView", name := "feed", desc := "(IIIII)I" } : Jvm.MethodName) ({ cls := "GuestView", name := "feed", desc := "(IIIII)I" } : Jvm.MethodName)) ∈ lw_all := lw_g (lw_at lw_m2 215 rfl) rfl
theorem q607 : (Jvm.Cond.code ({ cls := "GuestView", name := "feed", desc := "(IIIII)I" } : Jvm.MethodName) prog_1_method_14_code (6 : Nat) (Option.some Jvm.ClassFile.FieldType.int)) ∈ lw_all := lw_g (lw_at lw_m2 216 rfl) rfl
theorem q608 : (Jvm.Cond.methodLink "GuestView" (126 : Nat) ({ cls := "GuestView", name := "four", desc := "(I)V" } : Jvm.MethodName)) ∈ lw_all := lw_g (lw_at lw_m2 217 rfl) rfl
theorem q609 : (Jvm.Cond.privateMethod ({ cls := "GuestView", name := "four", desc := "(I)V" } : Jvm.MethodName)) ∈ lw_tbl := lw_at lw_m2 218 rfl
theorem q610 : (Jvm.Cond.instanceMethod ({ cls := "GuestView", name := "four", desc := "(I)V" } : Jvm.MethodName)) ∈ lw_all := lw_g (lw_at lw_m2 219 rfl) rfl
theorem q611 : (Jvm.Cond.code ({ cls := "GuestView", name := "four", desc := "(I)V" } : Jvm.MethodName) prog_1_method_13_code (3 : Nat) (Option.none : Option Jvm.ClassFile.FieldType)) ∈ lw_all := lw_g (lw_at lw_m2 220 rfl) rfl
theorem q613 : (Jvm.Cond.instanceMethod ({ cls := "GuestView", name := "end", desc := "(I)Z" } : Jvm.MethodName)) ∈ lw_all := lw_g (lw_at lw_m2 222 rfl) rfl
theorem q614 : (Jvm.Cond.selects "GuestView" ({ cls := "GuestView", name := "end", desc := "(I)Z" } : Jvm.MethodName) ({ cls := "GuestView", name := "end", desc := "(I)Z" } : Jvm.MethodName)) ∈ lw_all := lw_g (lw_at lw_m2 223 rfl) rfl
theorem q615 : (Jvm.Cond.code ({ cls := "GuestView", name := "end", desc := "(I)Z" } : Jvm.MethodName) prog_1_method_15_code (2 : Nat) (Option.some Jvm.ClassFile.FieldType.boolean)) ∈ lw_all := lw_g (lw_at lw_m2 224 rfl) rfl
theorem q616 : (Jvm.Cond.methodLink "GuestView" (104 : Nat) ({ cls := "GuestView", name := "isIn", desc := "(III)Z" } : Jvm.MethodName)) ∈ lw_all := lw_g (lw_at lw_m2 225 rfl) rfl
theorem q617 : (Jvm.Cond.static ({ cls := "GuestView", name := "isIn", desc := "(III)Z" } : Jvm.MethodName)) ∈ lw_all := lw_g (lw_at lw_m2 226 rfl) rfl
theorem q618 : (Jvm.Cond.code ({ cls := "GuestView", name := "isIn", desc := "(III)Z" } : Jvm.MethodName) prog_1_method_9_code (3 : Nat) (Option.some Jvm.ClassFile.FieldType.boolean)) ∈ lw_all := lw_g (lw_at lw_m2 227 rfl) rfl
theorem q620 : (Jvm.Cond.instanceMethod ({ cls := "GuestView", name := "fault", desc := "()I" } : Jvm.MethodName)) ∈ lw_all := lw_g (lw_at lw_m2 229 rfl) rfl
theorem q621 : (Jvm.Cond.selects "GuestView" ({ cls := "GuestView", name := "fault", desc := "()I" } : Jvm.MethodName) ({ cls := "GuestView", name := "fault", desc := "()I" } : Jvm.MethodName)) ∈ lw_all := lw_g (lw_at lw_m2 230 rfl) rfl
theorem q622 : (Jvm.Cond.code ({ cls := "GuestView", name := "fault", desc := "()I" } : Jvm.MethodName) prog_1_method_20_code (1 : Nat) (Option.some Jvm.ClassFile.FieldType.int)) ∈ lw_all := lw_g (lw_at lw_m2 231 rfl) rfl
theorem q624 : (Jvm.Cond.instanceMethod ({ cls := "GuestView", name := "program", desc := "(I)I" } : Jvm.MethodName)) ∈ lw_all := lw_g (lw_at lw_m2 233 rfl) rfl
theorem q625 : (Jvm.Cond.selects "GuestView" ({ cls := "GuestView", name := "program", desc := "(I)I" } : Jvm.MethodName) ({ cls := "GuestView", name := "program", desc := "(I)I" } : Jvm.MethodName)) ∈ lw_all := lw_g (lw_at lw_m2 234 rfl) rfl
theorem q626 : (Jvm.Cond.code ({ cls := "GuestView", name := "program", desc := "(I)I" } : Jvm.MethodName) prog_1_method_33_code (2 : Nat) (Option.some Jvm.ClassFile.FieldType.int)) ∈ lw_all := lw_g (lw_at lw_m2 235 rfl) rfl
theorem q628 : (Jvm.Cond.instanceMethod ({ cls := "GuestView", name := "boot", desc := "()V" } : Jvm.MethodName)) ∈ lw_all := lw_g (lw_at lw_m2 237 rfl) rfl
theorem q629 : (Jvm.Cond.selects "GuestView" ({ cls := "GuestView", name := "boot", desc := "()V" } : Jvm.MethodName) ({ cls := "GuestView", name := "boot", desc := "()V" } : Jvm.MethodName)) ∈ lw_all := lw_g (lw_at lw_m2 238 rfl) rfl
theorem q630 : (Jvm.Cond.code ({ cls := "GuestView", name := "boot", desc := "()V" } : Jvm.MethodName) prog_1_method_40_code (1 : Nat) (Option.none : Option Jvm.ClassFile.FieldType)) ∈ lw_all := lw_g (lw_at lw_m2 239 rfl) rfl
theorem q631 : (Jvm.Cond.methodLink "GuestView" (323 : Nat) ({ cls := "GuestView", name := "remembers", desc := "()V" } : Jvm.MethodName)) ∈ lw_all := lw_g (lw_at lw_m3 0 rfl) rfl
theorem q632 : (Jvm.Cond.privateMethod ({ cls := "GuestView", name := "remembers", desc := "()V" } : Jvm.MethodName)) ∈ lw_tbl := lw_at lw_m3 1 rfl
theorem q633 : (Jvm.Cond.instanceMethod ({ cls := "GuestView", name := "remembers", desc := "()V" } : Jvm.MethodName)) ∈ lw_all := lw_g (lw_at lw_m3 2 rfl) rfl
theorem q634 : (Jvm.Cond.code ({ cls := "GuestView", name := "remembers", desc := "()V" } : Jvm.MethodName) prog_1_method_36_code (1 : Nat) (Option.none : Option Jvm.ClassFile.FieldType)) ∈ lw_all := lw_g (lw_at lw_m3 3 rfl) rfl
theorem q635 : (Jvm.Cond.methodLink "GuestView" (153 : Nat) ({ cls := "GuestView$State", name := "be", desc := "(LGuestView$State;)V" } : Jvm.MethodName)) ∈ lw_all := lw_g (lw_at lw_m3 4 rfl) rfl
theorem q656 : (Jvm.Cond.methodLink "GuestView" (313 : Nat) ({ cls := "java/lang/Math", name := "min", desc := "(II)I" } : Jvm.MethodName)) ∈ lw_all := lw_g (lw_at lw_m3 25 rfl) rfl
theorem q659 : (Jvm.Cond.methodLink "GuestView" (330 : Nat) ({ cls := "GuestView", name := "reboots", desc := "()V" } : Jvm.MethodName)) ∈ lw_all := lw_g (lw_at lw_m3 28 rfl) rfl
theorem q660 : (Jvm.Cond.privateMethod ({ cls := "GuestView", name := "reboots", desc := "()V" } : Jvm.MethodName)) ∈ lw_tbl := lw_at lw_m3 29 rfl
theorem q661 : (Jvm.Cond.instanceMethod ({ cls := "GuestView", name := "reboots", desc := "()V" } : Jvm.MethodName)) ∈ lw_all := lw_g (lw_at lw_m3 30 rfl) rfl
theorem q662 : (Jvm.Cond.code ({ cls := "GuestView", name := "reboots", desc := "()V" } : Jvm.MethodName) prog_1_method_39_code (1 : Nat) (Option.none : Option Jvm.ClassFile.FieldType)) ∈ lw_all := lw_g (lw_at lw_m3 31 rfl) rfl
theorem q664 : (Jvm.Cond.instanceMethod ({ cls := "GuestView", name := "hostable", desc := "()Z" } : Jvm.MethodName)) ∈ lw_all := lw_g (lw_at lw_m3 33 rfl) rfl
theorem q665 : (Jvm.Cond.selects "GuestView" ({ cls := "GuestView", name := "hostable", desc := "()Z" } : Jvm.MethodName) ({ cls := "GuestView", name := "hostable", desc := "()Z" } : Jvm.MethodName)) ∈ lw_all := lw_g (lw_at lw_m3 34 rfl) rfl
theorem q666 : (Jvm.Cond.code ({ cls := "GuestView", name := "hostable", desc := "()Z" } : Jvm.MethodName) prog_1_method_50_code (1 : Nat) (Option.some Jvm.ClassFile.FieldType.boolean)) ∈ lw_all := lw_g (lw_at lw_m3 35 rfl) rfl
theorem q667 : (Jvm.Cond.methodLink "GuestView" (350 : Nat) ({ cls := "GuestView", name := "openOnes", desc := "()I" } : Jvm.MethodName)) ∈ lw_all := lw_g (lw_at lw_m3 36 rfl) rfl
theorem q668 : (Jvm.Cond.privateMethod ({ cls := "GuestView", name := "openOnes", desc := "()I" } : Jvm.MethodName)) ∈ lw_tbl := lw_at lw_m3 37 rfl
theorem q669 : (Jvm.Cond.instanceMethod ({ cls := "GuestView", name := "openOnes", desc := "()I" } : Jvm.MethodName)) ∈ lw_all := lw_g (lw_at lw_m3 38 rfl) rfl
theorem q670 : (Jvm.Cond.code ({ cls := "GuestView", name := "openOnes", desc := "()I" } : Jvm.MethodName) prog_1_method_49_code (3 : Nat) (Option.some Jvm.ClassFile.FieldType.int)) ∈ lw_all := lw_g (lw_at lw_m3 39 rfl) rfl
theorem q671 : (Jvm.Cond.methodLink "GuestView" (256 : Nat) ({ cls := "GuestView$Op", name := "isSensitive", desc := "()Z" } : Jvm.MethodName)) ∈ lw_all := lw_g (lw_at lw_m3 40 rfl) rfl
theorem q680 : (Jvm.Cond.instanceMethod ({ cls := "GuestView", name := "alike", desc := "()Z" } : Jvm.MethodName)) ∈ lw_all := lw_g (lw_at lw_m3 49 rfl) rfl
theorem q681 : (Jvm.Cond.selects "GuestView" ({ cls := "GuestView", name := "alike", desc := "()Z" } : Jvm.MethodName) ({ cls := "GuestView", name := "alike", desc := "()Z" } : Jvm.MethodName)) ∈ lw_all := lw_g (lw_at lw_m3 50 rfl) rfl
theorem q682 : (Jvm.Cond.code ({ cls := "GuestView", name := "alike", desc := "()Z" } : Jvm.MethodName) prog_1_method_51_code (1 : Nat) (Option.some Jvm.ClassFile.FieldType.boolean)) ∈ lw_all := lw_g (lw_at lw_m3 51 rfl) rfl
theorem q683 : (Jvm.Cond.methodLink "GuestView" (353 : Nat) ({ cls := "GuestView$Guest", name := "isLike", desc := "(LGuestView$Guest;)Z" } : Jvm.MethodName)) ∈ lw_all := lw_g (lw_at lw_m3 52 rfl) rfl
theorem q692 : (Jvm.Cond.instanceMethod ({ cls := "GuestView", name := "leaks", desc := "()I" } : Jvm.MethodName)) ∈ lw_all := lw_g (lw_at lw_m3 61 rfl) rfl
theorem q693 : (Jvm.Cond.selects "GuestView" ({ cls := "GuestView", name := "leaks", desc := "()I" } : Jvm.MethodName) ({ cls := "GuestView", name := "leaks", desc := "()I" } : Jvm.MethodName)) ∈ lw_all := lw_g (lw_at lw_m3 62 rfl) rfl
theorem q694 : (Jvm.Cond.code ({ cls := "GuestView", name := "leaks", desc := "()I" } : Jvm.MethodName) prog_1_method_53_code (1 : Nat) (Option.some Jvm.ClassFile.FieldType.int)) ∈ lw_all := lw_g (lw_at lw_m3 63 rfl) rfl
theorem q695 : (Jvm.Cond.methodLink "GuestView" (364 : Nat) ({ cls := "GuestView", name := "leak", desc := "()I" } : Jvm.MethodName)) ∈ lw_all := lw_g (lw_at lw_m3 64 rfl) rfl
theorem q696 : (Jvm.Cond.privateMethod ({ cls := "GuestView", name := "leak", desc := "()I" } : Jvm.MethodName)) ∈ lw_tbl := lw_at lw_m3 65 rfl
theorem q697 : (Jvm.Cond.instanceMethod ({ cls := "GuestView", name := "leak", desc := "()I" } : Jvm.MethodName)) ∈ lw_all := lw_g (lw_at lw_m3 66 rfl) rfl
theorem q698 : (Jvm.Cond.code ({ cls := "GuestView", name := "leak", desc := "()I" } : Jvm.MethodName) prog_1_method_52_code (3 : Nat) (Option.some Jvm.ClassFile.FieldType.int)) ∈ lw_all := lw_g (lw_at lw_m3 67 rfl) rfl
theorem q699 : (Jvm.Cond.methodLink "GuestView" (357 : Nat) ({ cls := "GuestView$State", name := "stepsBare", desc := "(LGuestView$Guest;)V" } : Jvm.MethodName)) ∈ lw_all := lw_g (lw_at lw_m3 68 rfl) rfl
theorem q736 : (Jvm.Cond.methodLink "GuestView" (361 : Nat) ({ cls := "GuestView$State", name := "stepsHosted", desc := "(LGuestView$Guest;)I" } : Jvm.MethodName)) ∈ lw_all := lw_g (lw_at lw_m3 105 rfl) rfl
theorem q819 : (Jvm.Cond.instanceMethod ({ cls := "GuestView", name := "least", desc := "()I" } : Jvm.MethodName)) ∈ lw_all := lw_g (lw_at lw_m3 188 rfl) rfl
theorem q820 : (Jvm.Cond.selects "GuestView" ({ cls := "GuestView", name := "least", desc := "()I" } : Jvm.MethodName) ({ cls := "GuestView", name := "least", desc := "()I" } : Jvm.MethodName)) ∈ lw_all := lw_g (lw_at lw_m3 189 rfl) rfl
theorem q821 : (Jvm.Cond.code ({ cls := "GuestView", name := "least", desc := "()I" } : Jvm.MethodName) prog_1_method_57_code (3 : Nat) (Option.some Jvm.ClassFile.FieldType.int)) ∈ lw_all := lw_g (lw_at lw_m3 190 rfl) rfl
theorem q823 : (Jvm.Cond.instanceMethod ({ cls := "GuestView", name := "proof", desc := "()I" } : Jvm.MethodName)) ∈ lw_all := lw_g (lw_at lw_m3 192 rfl) rfl
theorem q824 : (Jvm.Cond.selects "GuestView" ({ cls := "GuestView", name := "proof", desc := "()I" } : Jvm.MethodName) ({ cls := "GuestView", name := "proof", desc := "()I" } : Jvm.MethodName)) ∈ lw_all := lw_g (lw_at lw_m3 193 rfl) rfl
theorem q825 : (Jvm.Cond.code ({ cls := "GuestView", name := "proof", desc := "()I" } : Jvm.MethodName) prog_1_method_59_code (5 : Nat) (Option.some Jvm.ClassFile.FieldType.int)) ∈ lw_all := lw_g (lw_at lw_m3 194 rfl) rfl
theorem q826 : (Jvm.Cond.methodLink "GuestView" (177 : Nat) ({ cls := "java/lang/System", name := "arraycopy", desc := "(Ljava/lang/Object;ILjava/lang/Object;II)V" } : Jvm.MethodName)) ∈ lw_all := lw_g (lw_at lw_m3 195 rfl) rfl
theorem q827 : (Jvm.Cond.methodLink "GuestView" (378 : Nat) ({ cls := "GuestView", name := "proofOf", desc := "(II)I" } : Jvm.MethodName)) ∈ lw_all := lw_g (lw_at lw_m3 196 rfl) rfl
theorem q828 : (Jvm.Cond.privateMethod ({ cls := "GuestView", name := "proofOf", desc := "(II)I" } : Jvm.MethodName)) ∈ lw_tbl := lw_at lw_m3 197 rfl
theorem q829 : (Jvm.Cond.instanceMethod ({ cls := "GuestView", name := "proofOf", desc := "(II)I" } : Jvm.MethodName)) ∈ lw_all := lw_g (lw_at lw_m3 198 rfl) rfl
theorem q830 : (Jvm.Cond.code ({ cls := "GuestView", name := "proofOf", desc := "(II)I" } : Jvm.MethodName) prog_1_method_58_code (5 : Nat) (Option.some Jvm.ClassFile.FieldType.int)) ∈ lw_all := lw_g (lw_at lw_m3 199 rfl) rfl
theorem q832 : (Jvm.Cond.instanceMethod ({ cls := "GuestView", name := "beside", desc := "()I" } : Jvm.MethodName)) ∈ lw_all := lw_g (lw_at lw_m3 201 rfl) rfl
theorem q833 : (Jvm.Cond.selects "GuestView" ({ cls := "GuestView", name := "beside", desc := "()I" } : Jvm.MethodName) ({ cls := "GuestView", name := "beside", desc := "()I" } : Jvm.MethodName)) ∈ lw_all := lw_g (lw_at lw_m3 202 rfl) rfl
theorem q834 : (Jvm.Cond.code ({ cls := "GuestView", name := "beside", desc := "()I" } : Jvm.MethodName) prog_1_method_62_code (6 : Nat) (Option.some Jvm.ClassFile.FieldType.int)) ∈ lw_all := lw_g (lw_at lw_m3 203 rfl) rfl
theorem q835 : (Jvm.Cond.methodLink "GuestView" (388 : Nat) ({ cls := "java/lang/Integer", name := "bitCount", desc := "(I)I" } : Jvm.MethodName)) ∈ lw_all := lw_g (lw_at lw_m3 204 rfl) rfl
theorem q841 : (Jvm.Cond.methodLink "GuestView" (385 : Nat) ({ cls := "GuestView", name := "areClashing", desc := "(II)Z" } : Jvm.MethodName)) ∈ lw_all := lw_g (lw_at lw_m3 210 rfl) rfl
theorem q842 : (Jvm.Cond.privateMethod ({ cls := "GuestView", name := "areClashing", desc := "(II)Z" } : Jvm.MethodName)) ∈ lw_tbl := lw_at lw_m3 211 rfl
theorem q843 : (Jvm.Cond.instanceMethod ({ cls := "GuestView", name := "areClashing", desc := "(II)Z" } : Jvm.MethodName)) ∈ lw_all := lw_g (lw_at lw_m3 212 rfl) rfl
theorem q844 : (Jvm.Cond.code ({ cls := "GuestView", name := "areClashing", desc := "(II)Z" } : Jvm.MethodName) prog_1_method_60_code (7 : Nat) (Option.some Jvm.ClassFile.FieldType.boolean)) ∈ lw_all := lw_g (lw_at lw_m3 213 rfl) rfl
theorem q845 : (Jvm.Cond.methodLink "GuestView" (381 : Nat) ({ cls := "GuestView$Op", name := "touches", desc := "(II)Z" } : Jvm.MethodName)) ∈ lw_all := lw_g (lw_at lw_m3 214 rfl) rfl
theorem q850 : (Jvm.Cond.instanceMethod ({ cls := "GuestView", name := "open", desc := "()I" } : Jvm.MethodName)) ∈ lw_all := lw_g (lw_at lw_m3 219 rfl) rfl
theorem q851 : (Jvm.Cond.selects "GuestView" ({ cls := "GuestView", name := "open", desc := "()I" } : Jvm.MethodName) ({ cls := "GuestView", name := "open", desc := "()I" } : Jvm.MethodName)) ∈ lw_all := lw_g (lw_at lw_m3 220 rfl) rfl
theorem q852 : (Jvm.Cond.code ({ cls := "GuestView", name := "open", desc := "()I" } : Jvm.MethodName) prog_1_method_63_code (1 : Nat) (Option.some Jvm.ClassFile.FieldType.int)) ∈ lw_all := lw_g (lw_at lw_m3 221 rfl) rfl
theorem q854 : (Jvm.Cond.instanceMethod ({ cls := "GuestView", name := "lead", desc := "()I" } : Jvm.MethodName)) ∈ lw_all := lw_g (lw_at lw_m3 223 rfl) rfl
theorem q855 : (Jvm.Cond.selects "GuestView" ({ cls := "GuestView", name := "lead", desc := "()I" } : Jvm.MethodName) ({ cls := "GuestView", name := "lead", desc := "()I" } : Jvm.MethodName)) ∈ lw_all := lw_g (lw_at lw_m3 224 rfl) rfl
theorem q856 : (Jvm.Cond.code ({ cls := "GuestView", name := "lead", desc := "()I" } : Jvm.MethodName) prog_1_method_72_code (1 : Nat) (Option.some Jvm.ClassFile.FieldType.int)) ∈ lw_all := lw_g (lw_at lw_m3 225 rfl) rfl
theorem q857 : (Jvm.Cond.methodLink "GuestView" (406 : Nat) ({ cls := "GuestView", name := "allLeads", desc := "()V" } : Jvm.MethodName)) ∈ lw_all := lw_g (lw_at lw_m3 226 rfl) rfl
theorem q858 : (Jvm.Cond.privateMethod ({ cls := "GuestView", name := "allLeads", desc := "()V" } : Jvm.MethodName)) ∈ lw_tbl := lw_at lw_m3 227 rfl
theorem q859 : (Jvm.Cond.instanceMethod ({ cls := "GuestView", name := "allLeads", desc := "()V" } : Jvm.MethodName)) ∈ lw_all := lw_g (lw_at lw_m3 228 rfl) rfl
theorem q860 : (Jvm.Cond.code ({ cls := "GuestView", name := "allLeads", desc := "()V" } : Jvm.MethodName) prog_1_method_71_code (4 : Nat) (Option.none : Option Jvm.ClassFile.FieldType)) ∈ lw_all := lw_g (lw_at lw_m3 229 rfl) rfl
theorem q861 : (Jvm.Cond.methodLink "GuestView" (403 : Nat) ({ cls := "GuestView", name := "stretch", desc := "(II)I" } : Jvm.MethodName)) ∈ lw_all := lw_g (lw_at lw_m3 230 rfl) rfl
theorem q862 : (Jvm.Cond.static ({ cls := "GuestView", name := "stretch", desc := "(II)I" } : Jvm.MethodName)) ∈ lw_all := lw_g (lw_at lw_m3 231 rfl) rfl
theorem q863 : (Jvm.Cond.code ({ cls := "GuestView", name := "stretch", desc := "(II)I" } : Jvm.MethodName) prog_1_method_70_code (2 : Nat) (Option.some Jvm.ClassFile.FieldType.int)) ∈ lw_all := lw_g (lw_at lw_m3 232 rfl) rfl
theorem q864 : (Jvm.Cond.methodLink "GuestView" (335 : Nat) ({ cls := "java/lang/Math", name := "max", desc := "(II)I" } : Jvm.MethodName)) ∈ lw_all := lw_g (lw_at lw_m3 233 rfl) rfl
theorem q868 : (Jvm.Cond.instanceMethod ({ cls := "GuestView", name := "side", desc := "()I" } : Jvm.MethodName)) ∈ lw_all := lw_g (lw_at lw_m3 237 rfl) rfl
theorem q869 : (Jvm.Cond.selects "GuestView" ({ cls := "GuestView", name := "side", desc := "()I" } : Jvm.MethodName) ({ cls := "GuestView", name := "side", desc := "()I" } : Jvm.MethodName)) ∈ lw_all := lw_g (lw_at lw_m3 238 rfl) rfl
theorem q870 : (Jvm.Cond.code ({ cls := "GuestView", name := "side", desc := "()I" } : Jvm.MethodName) prog_1_method_73_code (1 : Nat) (Option.some Jvm.ClassFile.FieldType.int)) ∈ lw_all := lw_g (lw_at lw_m3 239 rfl) rfl
theorem q872 : (Jvm.Cond.instanceMethod ({ cls := "GuestView", name := "twins", desc := "()I" } : Jvm.MethodName)) ∈ lw_all := lw_g (lw_at lw_m4 1 rfl) rfl
theorem q873 : (Jvm.Cond.selects "GuestView" ({ cls := "GuestView", name := "twins", desc := "()I" } : Jvm.MethodName) ({ cls := "GuestView", name := "twins", desc := "()I" } : Jvm.MethodName)) ∈ lw_all := lw_g (lw_at lw_m4 2 rfl) rfl
theorem q874 : (Jvm.Cond.code ({ cls := "GuestView", name := "twins", desc := "()I" } : Jvm.MethodName) prog_1_method_83_code (4 : Nat) (Option.some Jvm.ClassFile.FieldType.int)) ∈ lw_all := lw_g (lw_at lw_m4 3 rfl) rfl
theorem q875 : (Jvm.Cond.methodLink "GuestView" (431 : Nat) ({ cls := "GuestView$Op", name := "isLike", desc := "(LGuestView$Op;)Z" } : Jvm.MethodName)) ∈ lw_all := lw_g (lw_at lw_m4 4 rfl) rfl
theorem q879 : (Jvm.Cond.methodLink "GuestView" (248 : Nat) ({ cls := "GuestView", name := "flag", desc := "(Z)I" } : Jvm.MethodName)) ∈ lw_all := lw_g (lw_at lw_m4 8 rfl) rfl
theorem q880 : (Jvm.Cond.static ({ cls := "GuestView", name := "flag", desc := "(Z)I" } : Jvm.MethodName)) ∈ lw_all := lw_g (lw_at lw_m4 9 rfl) rfl
theorem q881 : (Jvm.Cond.code ({ cls := "GuestView", name := "flag", desc := "(Z)I" } : Jvm.MethodName) prog_1_method_28_code (1 : Nat) (Option.some Jvm.ClassFile.FieldType.int)) ∈ lw_all := lw_g (lw_at lw_m4 10 rfl) rfl
theorem q883 : (Jvm.Cond.instanceMethod ({ cls := "GuestView", name := "seed", desc := "(I)I" } : Jvm.MethodName)) ∈ lw_all := lw_g (lw_at lw_m4 12 rfl) rfl
theorem q884 : (Jvm.Cond.selects "GuestView" ({ cls := "GuestView", name := "seed", desc := "(I)I" } : Jvm.MethodName) ({ cls := "GuestView", name := "seed", desc := "(I)I" } : Jvm.MethodName)) ∈ lw_all := lw_g (lw_at lw_m4 13 rfl) rfl
theorem q885 : (Jvm.Cond.code ({ cls := "GuestView", name := "seed", desc := "(I)I" } : Jvm.MethodName) prog_1_method_89_code (3 : Nat) (Option.some Jvm.ClassFile.FieldType.int)) ∈ lw_all := lw_g (lw_at lw_m4 14 rfl) rfl
theorem q887 : (Jvm.Cond.instanceMethod ({ cls := "GuestView", name := "undo", desc := "()Z" } : Jvm.MethodName)) ∈ lw_all := lw_g (lw_at lw_m4 16 rfl) rfl
theorem q888 : (Jvm.Cond.selects "GuestView" ({ cls := "GuestView", name := "undo", desc := "()Z" } : Jvm.MethodName) ({ cls := "GuestView", name := "undo", desc := "()Z" } : Jvm.MethodName)) ∈ lw_all := lw_g (lw_at lw_m4 17 rfl) rfl
theorem q889 : (Jvm.Cond.code ({ cls := "GuestView", name := "undo", desc := "()Z" } : Jvm.MethodName) prog_1_method_90_code (1 : Nat) (Option.some Jvm.ClassFile.FieldType.boolean)) ∈ lw_all := lw_g (lw_at lw_m4 18 rfl) rfl
theorem q891 : (Jvm.Cond.instanceMethod ({ cls := "GuestView", name := "image", desc := "()V" } : Jvm.MethodName)) ∈ lw_all := lw_g (lw_at lw_m4 20 rfl) rfl
theorem q892 : (Jvm.Cond.selects "GuestView" ({ cls := "GuestView", name := "image", desc := "()V" } : Jvm.MethodName) ({ cls := "GuestView", name := "image", desc := "()V" } : Jvm.MethodName)) ∈ lw_all := lw_g (lw_at lw_m4 21 rfl) rfl
theorem q893 : (Jvm.Cond.code ({ cls := "GuestView", name := "image", desc := "()V" } : Jvm.MethodName) prog_1_method_91_code (1 : Nat) (Option.none : Option Jvm.ClassFile.FieldType)) ∈ lw_all := lw_g (lw_at lw_m4 22 rfl) rfl
theorem q895 : (Jvm.Cond.instanceMethod ({ cls := "GuestView", name := "back", desc := "()Z" } : Jvm.MethodName)) ∈ lw_all := lw_g (lw_at lw_m4 24 rfl) rfl
theorem q896 : (Jvm.Cond.selects "GuestView" ({ cls := "GuestView", name := "back", desc := "()Z" } : Jvm.MethodName) ({ cls := "GuestView", name := "back", desc := "()Z" } : Jvm.MethodName)) ∈ lw_all := lw_g (lw_at lw_m4 25 rfl) rfl
theorem q897 : (Jvm.Cond.code ({ cls := "GuestView", name := "back", desc := "()Z" } : Jvm.MethodName) prog_1_method_92_code (1 : Nat) (Option.some Jvm.ClassFile.FieldType.boolean)) ∈ lw_all := lw_g (lw_at lw_m4 26 rfl) rfl
theorem q899 : (Jvm.Cond.instanceMethod ({ cls := "GuestView", name := "count", desc := "(I)I" } : Jvm.MethodName)) ∈ lw_all := lw_g (lw_at lw_m4 28 rfl) rfl
theorem q900 : (Jvm.Cond.selects "GuestView" ({ cls := "GuestView", name := "count", desc := "(I)I" } : Jvm.MethodName) ({ cls := "GuestView", name := "count", desc := "(I)I" } : Jvm.MethodName)) ∈ lw_all := lw_g (lw_at lw_m4 29 rfl) rfl
theorem q901 : (Jvm.Cond.code ({ cls := "GuestView", name := "count", desc := "(I)I" } : Jvm.MethodName) prog_1_method_93_code (2 : Nat) (Option.some Jvm.ClassFile.FieldType.int)) ∈ lw_all := lw_g (lw_at lw_m4 30 rfl) rfl
theorem q908 : (Jvm.Cond.instanceMethod ({ cls := "GuestView", name := "bench", desc := "()I" } : Jvm.MethodName)) ∈ lw_all := lw_g (lw_at lw_m4 37 rfl) rfl
theorem q909 : (Jvm.Cond.selects "GuestView" ({ cls := "GuestView", name := "bench", desc := "()I" } : Jvm.MethodName) ({ cls := "GuestView", name := "bench", desc := "()I" } : Jvm.MethodName)) ∈ lw_all := lw_g (lw_at lw_m4 38 rfl) rfl
theorem q910 : (Jvm.Cond.codeWith ({ cls := "GuestView", name := "bench", desc := "()I" } : Jvm.MethodName) prog_1_method_18_code (4 : Nat) (Option.some Jvm.ClassFile.FieldType.int) [((10 : Nat), (23 : Nat), (26 : Nat), (131 : Nat))]) ∈ lw_all := lw_g (lw_at lw_m4 39 rfl) rfl
theorem q911 : (Jvm.Cond.classLink "GuestView" (131 : Nat) "GuestView$Wrong") ∈ lw_all := lw_g (lw_at lw_m4 40 rfl) rfl
theorem q912 : (Jvm.Cond.methodLink "GuestView" (135 : Nat) ({ cls := "GuestView", name := "took", desc := "()I" } : Jvm.MethodName)) ∈ lw_all := lw_g (lw_at lw_m4 41 rfl) rfl
theorem q913 : (Jvm.Cond.privateMethod ({ cls := "GuestView", name := "took", desc := "()I" } : Jvm.MethodName)) ∈ lw_tbl := lw_at lw_m4 42 rfl
theorem q914 : (Jvm.Cond.instanceMethod ({ cls := "GuestView", name := "took", desc := "()I" } : Jvm.MethodName)) ∈ lw_all := lw_g (lw_at lw_m4 43 rfl) rfl
theorem q915 : (Jvm.Cond.code ({ cls := "GuestView", name := "took", desc := "()I" } : Jvm.MethodName) prog_1_method_16_code (2 : Nat) (Option.some Jvm.ClassFile.FieldType.int)) ∈ lw_all := lw_g (lw_at lw_m4 44 rfl) rfl
theorem q916 : (Jvm.Cond.methodLink "GuestView" (139 : Nat) ({ cls := "GuestView$Reader", name := "lines", desc := "(ILGuestView$State;)LGuestView$State;" } : Jvm.MethodName)) ∈ lw_all := lw_g (lw_at lw_m4 45 rfl) rfl
theorem q1010 : (Jvm.Cond.static ({ cls := "GuestView", name := "isAny", desc := "(I[I)Z" } : Jvm.MethodName)) ∈ lw_all := lw_g (lw_at lw_m4 139 rfl) rfl
theorem q1011 : (Jvm.Cond.code ({ cls := "GuestView", name := "isAny", desc := "(I[I)Z" } : Jvm.MethodName) prog_1_method_1_code (3 : Nat) (Option.some Jvm.ClassFile.FieldType.boolean)) ∈ lw_all := lw_g (lw_at lw_m4 140 rfl) rfl
theorem q1043 : (Jvm.Cond.methodLink "GuestView" (143 : Nat) ({ cls := "GuestView", name := "isWrong", desc := "(LGuestView$Wrong;)Ljava/lang/IllegalArgumentException;" } : Jvm.MethodName)) ∈ lw_all := lw_g (lw_at lw_m4 172 rfl) rfl
theorem q1044 : (Jvm.Cond.privateMethod ({ cls := "GuestView", name := "isWrong", desc := "(LGuestView$Wrong;)Ljava/lang/IllegalArgumentException;" } : Jvm.MethodName)) ∈ lw_tbl := lw_at lw_m4 173 rfl
theorem q1045 : (Jvm.Cond.instanceMethod ({ cls := "GuestView", name := "isWrong", desc := "(LGuestView$Wrong;)Ljava/lang/IllegalArgumentException;" } : Jvm.MethodName)) ∈ lw_all := lw_g (lw_at lw_m4 174 rfl) rfl
theorem q1046 : (Jvm.Cond.code ({ cls := "GuestView", name := "isWrong", desc := "(LGuestView$Wrong;)Ljava/lang/IllegalArgumentException;" } : Jvm.MethodName) prog_1_method_17_code (2 : Nat) (Option.some (Jvm.ClassFile.FieldType.object "java/lang/IllegalArgumentException"))) ∈ lw_all := lw_g (lw_at lw_m4 175 rfl) rfl
theorem q1047 : (Jvm.Cond.classLink "GuestView" (86 : Nat) "java/lang/IllegalArgumentException") ∈ lw_all := lw_g (lw_at lw_m4 176 rfl) rfl
theorem q1056 : (Jvm.Cond.methodLink "GuestView" (88 : Nat) ({ cls := "java/lang/IllegalArgumentException", name := "<init>", desc := "()V" } : Jvm.MethodName)) ∈ lw_all := lw_g (lw_at lw_m4 185 rfl) rfl
theorem q1068 : (Jvm.Cond.methodLink "GuestView" (150 : Nat) ({ cls := "GuestView", name := "mayBe", desc := "(Z)V" } : Jvm.MethodName)) ∈ lw_all := lw_g (lw_at lw_m4 197 rfl) rfl
theorem q1069 : (Jvm.Cond.static ({ cls := "GuestView", name := "mayBe", desc := "(Z)V" } : Jvm.MethodName)) ∈ lw_all := lw_g (lw_at lw_m4 198 rfl) rfl
theorem q1070 : (Jvm.Cond.code ({ cls := "GuestView", name := "mayBe", desc := "(Z)V" } : Jvm.MethodName) prog_1_method_5_code (1 : Nat) (Option.none : Option Jvm.ClassFile.FieldType)) ∈ lw_all := lw_g (lw_at lw_m4 199 rfl) rfl
theorem q1071 : (Jvm.Cond.classLink "GuestView" (89 : Nat) "java/lang/UnsupportedOperationException") ∈ lw_all := lw_g (lw_at lw_m4 200 rfl) rfl
theorem q1080 : (Jvm.Cond.methodLink "GuestView" (91 : Nat) ({ cls := "java/lang/UnsupportedOperationException", name := "<init>", desc := "()V" } : Jvm.MethodName)) ∈ lw_all := lw_g (lw_at lw_m4 209 rfl) rfl
theorem q1086 : (Jvm.Cond.methodLink "GuestView" (160 : Nat) ({ cls := "GuestView", name := "allTried", desc := "()V" } : Jvm.MethodName)) ∈ lw_all := lw_g (lw_at lw_m4 215 rfl) rfl
theorem q1087 : (Jvm.Cond.privateMethod ({ cls := "GuestView", name := "allTried", desc := "()V" } : Jvm.MethodName)) ∈ lw_tbl := lw_at lw_m4 216 rfl
theorem q1088 : (Jvm.Cond.instanceMethod ({ cls := "GuestView", name := "allTried", desc := "()V" } : Jvm.MethodName)) ∈ lw_all := lw_g (lw_at lw_m4 217 rfl) rfl
theorem q1089 : (Jvm.Cond.code ({ cls := "GuestView", name := "allTried", desc := "()V" } : Jvm.MethodName) prog_1_method_27_code (3 : Nat) (Option.none : Option Jvm.ClassFile.FieldType)) ∈ lw_all := lw_g (lw_at lw_m4 218 rfl) rfl
theorem q1090 : (Jvm.Cond.methodLink "GuestView" (236 : Nat) ({ cls := "GuestView", name := "witnessOf", desc := "(LGuestView$Op;I)I" } : Jvm.MethodName)) ∈ lw_all := lw_g (lw_at lw_m4 219 rfl) rfl
theorem q1091 : (Jvm.Cond.privateMethod ({ cls := "GuestView", name := "witnessOf", desc := "(LGuestView$Op;I)I" } : Jvm.MethodName)) ∈ lw_tbl := lw_at lw_m4 220 rfl
theorem q1092 : (Jvm.Cond.instanceMethod ({ cls := "GuestView", name := "witnessOf", desc := "(LGuestView$Op;I)I" } : Jvm.MethodName)) ∈ lw_all := lw_g (lw_at lw_m4 221 rfl) rfl
theorem q1093 : (Jvm.Cond.code ({ cls := "GuestView", name := "witnessOf", desc := "(LGuestView$Op;I)I" } : Jvm.MethodName) prog_1_method_26_code (4 : Nat) (Option.some Jvm.ClassFile.FieldType.int)) ∈ lw_all := lw_g (lw_at lw_m4 222 rfl) rfl
theorem q1094 : (Jvm.Cond.methodLink "GuestView" (229 : Nat) ({ cls := "GuestView", name := "shows", desc := "(LGuestView$Op;II)Z" } : Jvm.MethodName)) ∈ lw_all := lw_g (lw_at lw_m4 223 rfl) rfl
theorem q1095 : (Jvm.Cond.privateMethod ({ cls := "GuestView", name := "shows", desc := "(LGuestView$Op;II)Z" } : Jvm.MethodName)) ∈ lw_tbl := lw_at lw_m4 224 rfl
theorem q1096 : (Jvm.Cond.instanceMethod ({ cls := "GuestView", name := "shows", desc := "(LGuestView$Op;II)Z" } : Jvm.MethodName)) ∈ lw_all := lw_g (lw_at lw_m4 225 rfl) rfl
theorem q1097 : (Jvm.Cond.code ({ cls := "GuestView", name := "shows", desc := "(LGuestView$Op;II)Z" } : Jvm.MethodName) prog_1_method_25_code (4 : Nat) (Option.some Jvm.ClassFile.FieldType.boolean)) ∈ lw_all := lw_g (lw_at lw_m4 226 rfl) rfl
theorem q1098 : (Jvm.Cond.methodLink "GuestView" (216 : Nat) ({ cls := "GuestView", name := "isControl", desc := "(LGuestView$Op;I)Z" } : Jvm.MethodName)) ∈ lw_all := lw_g (lw_at lw_m4 227 rfl) rfl
theorem q1099 : (Jvm.Cond.privateMethod ({ cls := "GuestView", name := "isControl", desc := "(LGuestView$Op;I)Z" } : Jvm.MethodName)) ∈ lw_tbl := lw_at lw_m4 228 rfl
theorem q1100 : (Jvm.Cond.instanceMethod ({ cls := "GuestView", name := "isControl", desc := "(LGuestView$Op;I)Z" } : Jvm.MethodName)) ∈ lw_all := lw_g (lw_at lw_m4 229 rfl) rfl
theorem q1101 : (Jvm.Cond.code ({ cls := "GuestView", name := "isControl", desc := "(LGuestView$Op;I)Z" } : Jvm.MethodName) prog_1_method_21_code (5 : Nat) (Option.some Jvm.ClassFile.FieldType.boolean)) ∈ lw_all := lw_g (lw_at lw_m4 230 rfl) rfl
theorem q1102 : (Jvm.Cond.methodLink "GuestView" (183 : Nat) ({ cls := "GuestView$Machine", name := "isIn", desc := "(I)V" } : Jvm.MethodName)) ∈ lw_all := lw_g (lw_at lw_m4 231 rfl) rfl
theorem q1107 : (Jvm.Cond.laysStatic "GuestView" "TABLE" "[I") ∈ lw_tbl := lw_at lw_m4 236 rfl
theorem q1108 : (Jvm.Cond.methodLink "GuestView" (191 : Nat) ({ cls := "GuestView$Machine", name := "isTrapped", desc := "(LGuestView$Op;)Z" } : Jvm.MethodName)) ∈ lw_all := lw_g (lw_at lw_m4 237 rfl) rfl
theorem q1109 : (Jvm.Cond.methodLink "GuestView" (195 : Nat) ({ cls := "GuestView$Machine", name := "does", desc := "(LGuestView$Op;)V" } : Jvm.MethodName)) ∈ lw_all := lw_g (lw_at lw_m4 238 rfl) rfl
theorem q1110 : (Jvm.Cond.methodLink "GuestView" (220 : Nat) ({ cls := "GuestView", name := "isModal", desc := "(LGuestView$Op;I)Z" } : Jvm.MethodName)) ∈ lw_all := lw_g (lw_at lw_m4 239 rfl) rfl
theorem q1111 : (Jvm.Cond.privateMethod ({ cls := "GuestView", name := "isModal", desc := "(LGuestView$Op;I)Z" } : Jvm.MethodName)) ∈ lw_tbl := lw_at lw_m5 0 rfl
theorem q1112 : (Jvm.Cond.instanceMethod ({ cls := "GuestView", name := "isModal", desc := "(LGuestView$Op;I)Z" } : Jvm.MethodName)) ∈ lw_all := lw_g (lw_at lw_m5 1 rfl) rfl
theorem q1113 : (Jvm.Cond.code ({ cls := "GuestView", name := "isModal", desc := "(LGuestView$Op;I)Z" } : Jvm.MethodName) prog_1_method_22_code (3 : Nat) (Option.some Jvm.ClassFile.FieldType.boolean)) ∈ lw_all := lw_g (lw_at lw_m5 2 rfl) rfl
theorem q1114 : (Jvm.Cond.methodLink "GuestView" (205 : Nat) ({ cls := "GuestView$Machine", name := "isUnlike", desc := "(LGuestView$Machine;I)Z" } : Jvm.MethodName)) ∈ lw_all := lw_g (lw_at lw_m5 3 rfl) rfl
theorem q1118 : (Jvm.Cond.methodLink "GuestView" (223 : Nat) ({ cls := "GuestView", name := "isLocal", desc := "(LGuestView$Op;I)Z" } : Jvm.MethodName)) ∈ lw_all := lw_g (lw_at lw_m5 7 rfl) rfl
theorem q1119 : (Jvm.Cond.privateMethod ({ cls := "GuestView", name := "isLocal", desc := "(LGuestView$Op;I)Z" } : Jvm.MethodName)) ∈ lw_tbl := lw_at lw_m5 8 rfl
theorem q1120 : (Jvm.Cond.instanceMethod ({ cls := "GuestView", name := "isLocal", desc := "(LGuestView$Op;I)Z" } : Jvm.MethodName)) ∈ lw_all := lw_g (lw_at lw_m5 9 rfl) rfl
theorem q1121 : (Jvm.Cond.code ({ cls := "GuestView", name := "isLocal", desc := "(LGuestView$Op;I)Z" } : Jvm.MethodName) prog_1_method_23_code (4 : Nat) (Option.some Jvm.ClassFile.FieldType.boolean)) ∈ lw_all := lw_g (lw_at lw_m5 10 rfl) rfl
theorem q1122 : (Jvm.Cond.methodLink "GuestView" (209 : Nat) ({ cls := "GuestView$Machine", name := "isTurned", desc := "(LGuestView$Machine;)V" } : Jvm.MethodName)) ∈ lw_all := lw_g (lw_at lw_m5 11 rfl) rfl
theorem q1126 : (Jvm.Cond.methodLink "GuestView" (226 : Nat) ({ cls := "GuestView", name := "isTimed", desc := "(LGuestView$Op;I)Z" } : Jvm.MethodName)) ∈ lw_all := lw_g (lw_at lw_m5 15 rfl) rfl
theorem q1127 : (Jvm.Cond.privateMethod ({ cls := "GuestView", name := "isTimed", desc := "(LGuestView$Op;I)Z" } : Jvm.MethodName)) ∈ lw_tbl := lw_at lw_m5 16 rfl
theorem q1128 : (Jvm.Cond.instanceMethod ({ cls := "GuestView", name := "isTimed", desc := "(LGuestView$Op;I)Z" } : Jvm.MethodName)) ∈ lw_all := lw_g (lw_at lw_m5 17 rfl) rfl
theorem q1129 : (Jvm.Cond.code ({ cls := "GuestView", name := "isTimed", desc := "(LGuestView$Op;I)Z" } : Jvm.MethodName) prog_1_method_24_code (4 : Nat) (Option.some Jvm.ClassFile.FieldType.boolean)) ∈ lw_all := lw_g (lw_at lw_m5 18 rfl) rfl
theorem q1134 : (Jvm.Cond.instanceMethod ({ cls := "GuestView", name := "law", desc := "()I" } : Jvm.MethodName)) ∈ lw_all := lw_g (lw_at lw_m5 23 rfl) rfl
theorem q1135 : (Jvm.Cond.selects "GuestView" ({ cls := "GuestView", name := "law", desc := "()I" } : Jvm.MethodName) ({ cls := "GuestView", name := "law", desc := "()I" } : Jvm.MethodName)) ∈ lw_all := lw_g (lw_at lw_m5 24 rfl) rfl
theorem q1136 : (Jvm.Cond.codeWith ({ cls := "GuestView", name := "law", desc := "()I" } : Jvm.MethodName) prog_1_method_19_code (3 : Nat) (Option.some Jvm.ClassFile.FieldType.int) [((10 : Nat), (25 : Nat), (28 : Nat), (131 : Nat))]) ∈ lw_all := lw_g (lw_at lw_m5 25 rfl) rfl
theorem q1137 : (Jvm.Cond.methodLink "GuestView" (163 : Nat) ({ cls := "GuestView$Reader", name := "laws", desc := "(I)I" } : Jvm.MethodName)) ∈ lw_all := lw_g (lw_at lw_m5 26 rfl) rfl
theorem q1303 : (Jvm.Cond.instanceMethod ({ cls := "GuestView", name := "op", desc := "(II)I" } : Jvm.MethodName)) ∈ lw_all := lw_g (lw_at lw_m5 192 rfl) rfl
theorem q1304 : (Jvm.Cond.selects "GuestView" ({ cls := "GuestView", name := "op", desc := "(II)I" } : Jvm.MethodName) ({ cls := "GuestView", name := "op", desc := "(II)I" } : Jvm.MethodName)) ∈ lw_all := lw_g (lw_at lw_m5 193 rfl) rfl
theorem q1305 : (Jvm.Cond.code ({ cls := "GuestView", name := "op", desc := "(II)I" } : Jvm.MethodName) prog_1_method_29_code (4 : Nat) (Option.some Jvm.ClassFile.FieldType.int)) ∈ lw_all := lw_g (lw_at lw_m5 194 rfl) rfl
theorem q1306 : (Jvm.Cond.methodLink "GuestView" (240 : Nat) ({ cls := "GuestView", name := "opOf", desc := "(I)LGuestView$Op;" } : Jvm.MethodName)) ∈ lw_all := lw_g (lw_at lw_m5 195 rfl) rfl
theorem q1307 : (Jvm.Cond.privateMethod ({ cls := "GuestView", name := "opOf", desc := "(I)LGuestView$Op;" } : Jvm.MethodName)) ∈ lw_tbl := lw_at lw_m5 196 rfl
theorem q1308 : (Jvm.Cond.instanceMethod ({ cls := "GuestView", name := "opOf", desc := "(I)LGuestView$Op;" } : Jvm.MethodName)) ∈ lw_all := lw_g (lw_at lw_m5 197 rfl) rfl
theorem q1309 : (Jvm.Cond.code ({ cls := "GuestView", name := "opOf", desc := "(I)LGuestView$Op;" } : Jvm.MethodName) prog_1_method_10_code (2 : Nat) (Option.some (Jvm.ClassFile.FieldType.object "GuestView$Op"))) ∈ lw_all := lw_g (lw_at lw_m5 198 rfl) rfl
theorem q1310 : (Jvm.Cond.methodLink "GuestView" (108 : Nat) ({ cls := "GuestView", name := "mustBe", desc := "(Z)V" } : Jvm.MethodName)) ∈ lw_all := lw_g (lw_at lw_m5 199 rfl) rfl
theorem q1311 : (Jvm.Cond.static ({ cls := "GuestView", name := "mustBe", desc := "(Z)V" } : Jvm.MethodName)) ∈ lw_all := lw_g (lw_at lw_m5 200 rfl) rfl
theorem q1312 : (Jvm.Cond.code ({ cls := "GuestView", name := "mustBe", desc := "(Z)V" } : Jvm.MethodName) prog_1_method_6_code (1 : Nat) (Option.none : Option Jvm.ClassFile.FieldType)) ∈ lw_all := lw_g (lw_at lw_m5 201 rfl) rfl
theorem q1313 : (Jvm.Cond.classLink "GuestView" (92 : Nat) "java/lang/IndexOutOfBoundsException") ∈ lw_all := lw_g (lw_at lw_m5 202 rfl) rfl
theorem q1322 : (Jvm.Cond.methodLink "GuestView" (94 : Nat) ({ cls := "java/lang/IndexOutOfBoundsException", name := "<init>", desc := "()V" } : Jvm.MethodName)) ∈ lw_all := lw_g (lw_at lw_m5 211 rfl) rfl
theorem q1328 : (Jvm.Cond.methodLink "GuestView" (244 : Nat) ({ cls := "GuestView$Op", name := "is", desc := "(I)Z" } : Jvm.MethodName)) ∈ lw_all := lw_g (lw_at lw_m5 217 rfl) rfl
theorem q1329 : (Jvm.Cond.methodLink "GuestView" (260 : Nat) ({ cls := "GuestView$State", name := "emulation", desc := "(I)I" } : Jvm.MethodName)) ∈ lw_all := lw_g (lw_at lw_m5 218 rfl) rfl
theorem q1330 : (Jvm.Cond.methodLink "GuestView" (263 : Nat) ({ cls := "GuestView$State", name := "blame", desc := "(I)I" } : Jvm.MethodName)) ∈ lw_all := lw_g (lw_at lw_m5 219 rfl) rfl
theorem q1334 : (Jvm.Cond.methodLink "GuestView" (266 : Nat) ({ cls := "GuestView$State", name := "worth", desc := "(I)I" } : Jvm.MethodName)) ∈ lw_all := lw_g (lw_at lw_m5 223 rfl) rfl
theorem q1338 : (Jvm.Cond.methodLink "GuestView" (269 : Nat) ({ cls := "GuestView$State", name := "uses", desc := "(I)I" } : Jvm.MethodName)) ∈ lw_all := lw_g (lw_at lw_m5 227 rfl) rfl
theorem q1339 : (Jvm.Cond.classLink "GuestView" (95 : Nat) "java/util/NoSuchElementException") ∈ lw_all := lw_g (lw_at lw_m5 228 rfl) rfl
theorem q1348 : (Jvm.Cond.methodLink "GuestView" (97 : Nat) ({ cls := "java/util/NoSuchElementException", name := "<init>", desc := "()V" } : Jvm.MethodName)) ∈ lw_all := lw_g (lw_at lw_m5 237 rfl) rfl
theorem q1358 : (Jvm.Cond.instanceMethod ({ cls := "GuestView", name := "micro", desc := "(IIZ)I" } : Jvm.MethodName)) ∈ lw_all := lw_g (lw_at lw_m6 7 rfl) rfl
theorem q1359 : (Jvm.Cond.selects "GuestView" ({ cls := "GuestView", name := "micro", desc := "(IIZ)I" } : Jvm.MethodName) ({ cls := "GuestView", name := "micro", desc := "(IIZ)I" } : Jvm.MethodName)) ∈ lw_all := lw_g (lw_at lw_m6 8 rfl) rfl
theorem q1360 : (Jvm.Cond.code ({ cls := "GuestView", name := "micro", desc := "(IIZ)I" } : Jvm.MethodName) prog_1_method_30_code (5 : Nat) (Option.some Jvm.ClassFile.FieldType.int)) ∈ lw_all := lw_g (lw_at lw_m6 9 rfl) rfl
theorem q1365 : (Jvm.Cond.instanceMethod ({ cls := "GuestView", name := "witness", desc := "(II)I" } : Jvm.MethodName)) ∈ lw_all := lw_g (lw_at lw_m6 14 rfl) rfl
theorem q1366 : (Jvm.Cond.selects "GuestView" ({ cls := "GuestView", name := "witness", desc := "(II)I" } : Jvm.MethodName) ({ cls := "GuestView", name := "witness", desc := "(II)I" } : Jvm.MethodName)) ∈ lw_all := lw_g (lw_at lw_m6 15 rfl) rfl
theorem q1367 : (Jvm.Cond.code ({ cls := "GuestView", name := "witness", desc := "(II)I" } : Jvm.MethodName) prog_1_method_31_code (4 : Nat) (Option.some Jvm.ClassFile.FieldType.int)) ∈ lw_all := lw_g (lw_at lw_m6 16 rfl) rfl
theorem q1368 : (Jvm.Cond.methodLink "GuestView" (281 : Nat) ({ cls := "GuestView", name := "thereIs", desc := "(Z)V" } : Jvm.MethodName)) ∈ lw_all := lw_g (lw_at lw_m6 17 rfl) rfl
theorem q1369 : (Jvm.Cond.static ({ cls := "GuestView", name := "thereIs", desc := "(Z)V" } : Jvm.MethodName)) ∈ lw_all := lw_g (lw_at lw_m6 18 rfl) rfl
theorem q1370 : (Jvm.Cond.code ({ cls := "GuestView", name := "thereIs", desc := "(Z)V" } : Jvm.MethodName) prog_1_method_7_code (1 : Nat) (Option.none : Option Jvm.ClassFile.FieldType)) ∈ lw_all := lw_g (lw_at lw_m6 19 rfl) rfl
theorem q1375 : (Jvm.Cond.instanceMethod ({ cls := "GuestView", name := "done", desc := "(III)I" } : Jvm.MethodName)) ∈ lw_all := lw_g (lw_at lw_m6 24 rfl) rfl
theorem q1376 : (Jvm.Cond.selects "GuestView" ({ cls := "GuestView", name := "done", desc := "(III)I" } : Jvm.MethodName) ({ cls := "GuestView", name := "done", desc := "(III)I" } : Jvm.MethodName)) ∈ lw_all := lw_g (lw_at lw_m6 25 rfl) rfl
theorem q1377 : (Jvm.Cond.code ({ cls := "GuestView", name := "done", desc := "(III)I" } : Jvm.MethodName) prog_1_method_32_code (6 : Nat) (Option.some Jvm.ClassFile.FieldType.int)) ∈ lw_all := lw_g (lw_at lw_m6 26 rfl) rfl
theorem q1378 : (Jvm.Cond.methodLink "GuestView" (116 : Nat) ({ cls := "GuestView", name := "must", desc := "(Z)V" } : Jvm.MethodName)) ∈ lw_all := lw_g (lw_at lw_m6 27 rfl) rfl
theorem q1379 : (Jvm.Cond.static ({ cls := "GuestView", name := "must", desc := "(Z)V" } : Jvm.MethodName)) ∈ lw_all := lw_g (lw_at lw_m6 28 rfl) rfl
theorem q1380 : (Jvm.Cond.code ({ cls := "GuestView", name := "must", desc := "(Z)V" } : Jvm.MethodName) prog_1_method_4_code (1 : Nat) (Option.none : Option Jvm.ClassFile.FieldType)) ∈ lw_all := lw_g (lw_at lw_m6 29 rfl) rfl
theorem q1385 : (Jvm.Cond.instanceMethod ({ cls := "GuestView", name := "cell", desc := "(I)I" } : Jvm.MethodName)) ∈ lw_all := lw_g (lw_at lw_m6 34 rfl) rfl
theorem q1386 : (Jvm.Cond.selects "GuestView" ({ cls := "GuestView", name := "cell", desc := "(I)I" } : Jvm.MethodName) ({ cls := "GuestView", name := "cell", desc := "(I)I" } : Jvm.MethodName)) ∈ lw_all := lw_g (lw_at lw_m6 35 rfl) rfl
theorem q1387 : (Jvm.Cond.code ({ cls := "GuestView", name := "cell", desc := "(I)I" } : Jvm.MethodName) prog_1_method_34_code (2 : Nat) (Option.some Jvm.ClassFile.FieldType.int)) ∈ lw_all := lw_g (lw_at lw_m6 36 rfl) rfl
theorem q1388 : (Jvm.Cond.methodLink "GuestView" (294 : Nat) ({ cls := "GuestView", name := "isCell", desc := "(I)V" } : Jvm.MethodName)) ∈ lw_all := lw_g (lw_at lw_m6 37 rfl) rfl
theorem q1389 : (Jvm.Cond.static ({ cls := "GuestView", name := "isCell", desc := "(I)V" } : Jvm.MethodName)) ∈ lw_all := lw_g (lw_at lw_m6 38 rfl) rfl
theorem q1390 : (Jvm.Cond.code ({ cls := "GuestView", name := "isCell", desc := "(I)V" } : Jvm.MethodName) prog_1_method_11_code (1 : Nat) (Option.none : Option Jvm.ClassFile.FieldType)) ∈ lw_all := lw_g (lw_at lw_m6 39 rfl) rfl
theorem q1395 : (Jvm.Cond.instanceMethod ({ cls := "GuestView", name := "guest", desc := "(ZI)I" } : Jvm.MethodName)) ∈ lw_all := lw_g (lw_at lw_m6 44 rfl) rfl
theorem q1396 : (Jvm.Cond.selects "GuestView" ({ cls := "GuestView", name := "guest", desc := "(ZI)I" } : Jvm.MethodName) ({ cls := "GuestView", name := "guest", desc := "(ZI)I" } : Jvm.MethodName)) ∈ lw_all := lw_g (lw_at lw_m6 45 rfl) rfl
theorem q1397 : (Jvm.Cond.code ({ cls := "GuestView", name := "guest", desc := "(ZI)I" } : Jvm.MethodName) prog_1_method_35_code (4 : Nat) (Option.some Jvm.ClassFile.FieldType.int)) ∈ lw_all := lw_g (lw_at lw_m6 46 rfl) rfl
theorem q1398 : (Jvm.Cond.methodLink "GuestView" (303 : Nat) ({ cls := "GuestView$State", name := "opAt", desc := "(LGuestView$Guest;)I" } : Jvm.MethodName)) ∈ lw_all := lw_g (lw_at lw_m6 47 rfl) rfl
theorem q1399 : (Jvm.Cond.methodLink "GuestView" (307 : Nat) ({ cls := "GuestView$Guest", name := "cellAt", desc := "(I)I" } : Jvm.MethodName)) ∈ lw_all := lw_g (lw_at lw_m6 48 rfl) rfl
theorem q1404 : (Jvm.Cond.instanceMethod ({ cls := "GuestView", name := "ticks", desc := "(I)I" } : Jvm.MethodName)) ∈ lw_all := lw_g (lw_at lw_m6 53 rfl) rfl
theorem q1405 : (Jvm.Cond.selects "GuestView" ({ cls := "GuestView", name := "ticks", desc := "(I)I" } : Jvm.MethodName) ({ cls := "GuestView", name := "ticks", desc := "(I)I" } : Jvm.MethodName)) ∈ lw_all := lw_g (lw_at lw_m6 54 rfl) rfl
theorem q1406 : (Jvm.Cond.code ({ cls := "GuestView", name := "ticks", desc := "(I)I" } : Jvm.MethodName) prog_1_method_38_code (2 : Nat) (Option.some Jvm.ClassFile.FieldType.int)) ∈ lw_all := lw_g (lw_at lw_m6 55 rfl) rfl
theorem q1407 : (Jvm.Cond.methodLink "GuestView" (326 : Nat) ({ cls := "GuestView", name := "goOn", desc := "(IZ)I" } : Jvm.MethodName)) ∈ lw_all := lw_g (lw_at lw_m6 56 rfl) rfl
theorem q1408 : (Jvm.Cond.privateMethod ({ cls := "GuestView", name := "goOn", desc := "(IZ)I" } : Jvm.MethodName)) ∈ lw_tbl := lw_at lw_m6 57 rfl
theorem q1409 : (Jvm.Cond.instanceMethod ({ cls := "GuestView", name := "goOn", desc := "(IZ)I" } : Jvm.MethodName)) ∈ lw_all := lw_g (lw_at lw_m6 58 rfl) rfl
theorem q1410 : (Jvm.Cond.code ({ cls := "GuestView", name := "goOn", desc := "(IZ)I" } : Jvm.MethodName) prog_1_method_37_code (5 : Nat) (Option.some Jvm.ClassFile.FieldType.int)) ∈ lw_all := lw_g (lw_at lw_m6 59 rfl) rfl
theorem q1411 : (Jvm.Cond.methodLink "GuestView" (319 : Nat) ({ cls := "GuestView$State", name := "passes", desc := "(Z)Z" } : Jvm.MethodName)) ∈ lw_all := lw_g (lw_at lw_m6 60 rfl) rfl
theorem q1437 : (Jvm.Cond.instanceMethod ({ cls := "GuestView", name := "patch", desc := "(IZ)Z" } : Jvm.MethodName)) ∈ lw_all := lw_g (lw_at lw_m6 86 rfl) rfl
theorem q1438 : (Jvm.Cond.selects "GuestView" ({ cls := "GuestView", name := "patch", desc := "(IZ)Z" } : Jvm.MethodName) ({ cls := "GuestView", name := "patch", desc := "(IZ)Z" } : Jvm.MethodName)) ∈ lw_all := lw_g (lw_at lw_m6 87 rfl) rfl
theorem q1439 : (Jvm.Cond.code ({ cls := "GuestView", name := "patch", desc := "(IZ)Z" } : Jvm.MethodName) prog_1_method_41_code (5 : Nat) (Option.some Jvm.ClassFile.FieldType.boolean)) ∈ lw_all := lw_g (lw_at lw_m6 88 rfl) rfl
theorem q1444 : (Jvm.Cond.instanceMethod ({ cls := "GuestView", name := "guard", desc := "(IZ)Z" } : Jvm.MethodName)) ∈ lw_all := lw_g (lw_at lw_m6 93 rfl) rfl
theorem q1445 : (Jvm.Cond.selects "GuestView" ({ cls := "GuestView", name := "guard", desc := "(IZ)Z" } : Jvm.MethodName) ({ cls := "GuestView", name := "guard", desc := "(IZ)Z" } : Jvm.MethodName)) ∈ lw_all := lw_g (lw_at lw_m6 94 rfl) rfl
theorem q1446 : (Jvm.Cond.code ({ cls := "GuestView", name := "guard", desc := "(IZ)Z" } : Jvm.MethodName) prog_1_method_42_code (5 : Nat) (Option.some Jvm.ClassFile.FieldType.boolean)) ∈ lw_all := lw_g (lw_at lw_m6 95 rfl) rfl
theorem q1451 : (Jvm.Cond.instanceMethod ({ cls := "GuestView", name := "put", desc := "(II)I" } : Jvm.MethodName)) ∈ lw_all := lw_g (lw_at lw_m6 100 rfl) rfl
theorem q1452 : (Jvm.Cond.selects "GuestView" ({ cls := "GuestView", name := "put", desc := "(II)I" } : Jvm.MethodName) ({ cls := "GuestView", name := "put", desc := "(II)I" } : Jvm.MethodName)) ∈ lw_all := lw_g (lw_at lw_m6 101 rfl) rfl
theorem q1453 : (Jvm.Cond.code ({ cls := "GuestView", name := "put", desc := "(II)I" } : Jvm.MethodName) prog_1_method_43_code (4 : Nat) (Option.some Jvm.ClassFile.FieldType.int)) ∈ lw_all := lw_g (lw_at lw_m6 102 rfl) rfl
theorem q1454 : (Jvm.Cond.methodLink "GuestView" (333 : Nat) ({ cls := "GuestView", name := "program", desc := "(I)I" } : Jvm.MethodName)) ∈ lw_all := lw_g (lw_at lw_m6 103 rfl) rfl
theorem q1459 : (Jvm.Cond.instanceMethod ({ cls := "GuestView", name := "store", desc := "(II)I" } : Jvm.MethodName)) ∈ lw_all := lw_g (lw_at lw_m6 108 rfl) rfl
theorem q1460 : (Jvm.Cond.selects "GuestView" ({ cls := "GuestView", name := "store", desc := "(II)I" } : Jvm.MethodName) ({ cls := "GuestView", name := "store", desc := "(II)I" } : Jvm.MethodName)) ∈ lw_all := lw_g (lw_at lw_m6 109 rfl) rfl
theorem q1461 : (Jvm.Cond.code ({ cls := "GuestView", name := "store", desc := "(II)I" } : Jvm.MethodName) prog_1_method_44_code (4 : Nat) (Option.some Jvm.ClassFile.FieldType.int)) ∈ lw_all := lw_g (lw_at lw_m6 110 rfl) rfl
theorem q1466 : (Jvm.Cond.instanceMethod ({ cls := "GuestView", name := "vector", desc := "(I)I" } : Jvm.MethodName)) ∈ lw_all := lw_g (lw_at lw_m6 115 rfl) rfl
theorem q1467 : (Jvm.Cond.selects "GuestView" ({ cls := "GuestView", name := "vector", desc := "(I)I" } : Jvm.MethodName) ({ cls := "GuestView", name := "vector", desc := "(I)I" } : Jvm.MethodName)) ∈ lw_all := lw_g (lw_at lw_m6 116 rfl) rfl
theorem q1468 : (Jvm.Cond.code ({ cls := "GuestView", name := "vector", desc := "(I)I" } : Jvm.MethodName) prog_1_method_45_code (3 : Nat) (Option.some Jvm.ClassFile.FieldType.int)) ∈ lw_all := lw_g (lw_at lw_m6 117 rfl) rfl
theorem q1473 : (Jvm.Cond.instanceMethod ({ cls := "GuestView", name := "shift", desc := "(I)I" } : Jvm.MethodName)) ∈ lw_all := lw_g (lw_at lw_m6 122 rfl) rfl
theorem q1474 : (Jvm.Cond.selects "GuestView" ({ cls := "GuestView", name := "shift", desc := "(I)I" } : Jvm.MethodName) ({ cls := "GuestView", name := "shift", desc := "(I)I" } : Jvm.MethodName)) ∈ lw_all := lw_g (lw_at lw_m6 123 rfl) rfl
theorem q1475 : (Jvm.Cond.code ({ cls := "GuestView", name := "shift", desc := "(I)I" } : Jvm.MethodName) prog_1_method_46_code (3 : Nat) (Option.some Jvm.ClassFile.FieldType.int)) ∈ lw_all := lw_g (lw_at lw_m6 124 rfl) rfl
theorem q1480 : (Jvm.Cond.instanceMethod ({ cls := "GuestView", name := "cost", desc := "(I)I" } : Jvm.MethodName)) ∈ lw_all := lw_g (lw_at lw_m6 129 rfl) rfl
theorem q1481 : (Jvm.Cond.selects "GuestView" ({ cls := "GuestView", name := "cost", desc := "(I)I" } : Jvm.MethodName) ({ cls := "GuestView", name := "cost", desc := "(I)I" } : Jvm.MethodName)) ∈ lw_all := lw_g (lw_at lw_m6 130 rfl) rfl
theorem q1482 : (Jvm.Cond.code ({ cls := "GuestView", name := "cost", desc := "(I)I" } : Jvm.MethodName) prog_1_method_47_code (3 : Nat) (Option.some Jvm.ClassFile.FieldType.int)) ∈ lw_all := lw_g (lw_at lw_m6 131 rfl) rfl
theorem q1487 : (Jvm.Cond.instanceMethod ({ cls := "GuestView", name := "alarm", desc := "(I)I" } : Jvm.MethodName)) ∈ lw_all := lw_g (lw_at lw_m6 136 rfl) rfl
theorem q1488 : (Jvm.Cond.selects "GuestView" ({ cls := "GuestView", name := "alarm", desc := "(I)I" } : Jvm.MethodName) ({ cls := "GuestView", name := "alarm", desc := "(I)I" } : Jvm.MethodName)) ∈ lw_all := lw_g (lw_at lw_m6 137 rfl) rfl
theorem q1489 : (Jvm.Cond.code ({ cls := "GuestView", name := "alarm", desc := "(I)I" } : Jvm.MethodName) prog_1_method_48_code (3 : Nat) (Option.some Jvm.ClassFile.FieldType.int)) ∈ lw_all := lw_g (lw_at lw_m6 138 rfl) rfl
theorem q1494 : (Jvm.Cond.instanceMethod ({ cls := "GuestView", name := "traps", desc := "(I)I" } : Jvm.MethodName)) ∈ lw_all := lw_g (lw_at lw_m6 143 rfl) rfl
theorem q1495 : (Jvm.Cond.selects "GuestView" ({ cls := "GuestView", name := "traps", desc := "(I)I" } : Jvm.MethodName) ({ cls := "GuestView", name := "traps", desc := "(I)I" } : Jvm.MethodName)) ∈ lw_all := lw_g (lw_at lw_m6 144 rfl) rfl
theorem q1496 : (Jvm.Cond.code ({ cls := "GuestView", name := "traps", desc := "(I)I" } : Jvm.MethodName) prog_1_method_55_code (2 : Nat) (Option.some Jvm.ClassFile.FieldType.int)) ∈ lw_all := lw_g (lw_at lw_m6 145 rfl) rfl
theorem q1497 : (Jvm.Cond.methodLink "GuestView" (371 : Nat) ({ cls := "GuestView", name := "areSteps", desc := "(I)V" } : Jvm.MethodName)) ∈ lw_all := lw_g (lw_at lw_m6 146 rfl) rfl
theorem q1498 : (Jvm.Cond.static ({ cls := "GuestView", name := "areSteps", desc := "(I)V" } : Jvm.MethodName)) ∈ lw_all := lw_g (lw_at lw_m6 147 rfl) rfl
theorem q1499 : (Jvm.Cond.code ({ cls := "GuestView", name := "areSteps", desc := "(I)V" } : Jvm.MethodName) prog_1_method_12_code (1 : Nat) (Option.none : Option Jvm.ClassFile.FieldType)) ∈ lw_all := lw_g (lw_at lw_m6 148 rfl) rfl
theorem q1500 : (Jvm.Cond.methodLink "GuestView" (374 : Nat) ({ cls := "GuestView", name := "steps", desc := "(III)I" } : Jvm.MethodName)) ∈ lw_all := lw_g (lw_at lw_m6 149 rfl) rfl
theorem q1501 : (Jvm.Cond.privateMethod ({ cls := "GuestView", name := "steps", desc := "(III)I" } : Jvm.MethodName)) ∈ lw_tbl := lw_at lw_m6 150 rfl
theorem q1502 : (Jvm.Cond.instanceMethod ({ cls := "GuestView", name := "steps", desc := "(III)I" } : Jvm.MethodName)) ∈ lw_all := lw_g (lw_at lw_m6 151 rfl) rfl
theorem q1503 : (Jvm.Cond.code ({ cls := "GuestView", name := "steps", desc := "(III)I" } : Jvm.MethodName) prog_1_method_54_code (8 : Nat) (Option.some Jvm.ClassFile.FieldType.int)) ∈ lw_all := lw_g (lw_at lw_m6 152 rfl) rfl
theorem q1504 : (Jvm.Cond.methodLink "GuestView" (367 : Nat) ({ cls := "GuestView", name := "isAny", desc := "(I[I)Z" } : Jvm.MethodName)) ∈ lw_all := lw_g (lw_at lw_m6 153 rfl) rfl
theorem q1509 : (Jvm.Cond.instanceMethod ({ cls := "GuestView", name := "depth", desc := "(II)I" } : Jvm.MethodName)) ∈ lw_all := lw_g (lw_at lw_m6 158 rfl) rfl
theorem q1510 : (Jvm.Cond.selects "GuestView" ({ cls := "GuestView", name := "depth", desc := "(II)I" } : Jvm.MethodName) ({ cls := "GuestView", name := "depth", desc := "(II)I" } : Jvm.MethodName)) ∈ lw_all := lw_g (lw_at lw_m6 159 rfl) rfl
theorem q1511 : (Jvm.Cond.code ({ cls := "GuestView", name := "depth", desc := "(II)I" } : Jvm.MethodName) prog_1_method_56_code (3 : Nat) (Option.some Jvm.ClassFile.FieldType.int)) ∈ lw_all := lw_g (lw_at lw_m6 160 rfl) rfl
theorem q1516 : (Jvm.Cond.instanceMethod ({ cls := "GuestView", name := "clash", desc := "(II)Z" } : Jvm.MethodName)) ∈ lw_all := lw_g (lw_at lw_m6 165 rfl) rfl
theorem q1517 : (Jvm.Cond.selects "GuestView" ({ cls := "GuestView", name := "clash", desc := "(II)Z" } : Jvm.MethodName) ({ cls := "GuestView", name := "clash", desc := "(II)Z" } : Jvm.MethodName)) ∈ lw_all := lw_g (lw_at lw_m6 166 rfl) rfl
theorem q1518 : (Jvm.Cond.code ({ cls := "GuestView", name := "clash", desc := "(II)Z" } : Jvm.MethodName) prog_1_method_61_code (3 : Nat) (Option.some Jvm.ClassFile.FieldType.boolean)) ∈ lw_all := lw_g (lw_at lw_m6 167 rfl) rfl
theorem q1523 : (Jvm.Cond.instanceMethod ({ cls := "GuestView", name := "which", desc := "()I" } : Jvm.MethodName)) ∈ lw_all := lw_g (lw_at lw_m6 172 rfl) rfl
theorem q1524 : (Jvm.Cond.selects "GuestView" ({ cls := "GuestView", name := "which", desc := "()I" } : Jvm.MethodName) ({ cls := "GuestView", name := "which", desc := "()I" } : Jvm.MethodName)) ∈ lw_all := lw_g (lw_at lw_m6 173 rfl) rfl
theorem q1525 : (Jvm.Cond.code ({ cls := "GuestView", name := "which", desc := "()I" } : Jvm.MethodName) prog_1_method_66_code (1 : Nat) (Option.some Jvm.ClassFile.FieldType.int)) ∈ lw_all := lw_g (lw_at lw_m6 174 rfl) rfl
theorem q1526 : (Jvm.Cond.methodLink "GuestView" (396 : Nat) ({ cls := "GuestView", name := "hears", desc := "()I" } : Jvm.MethodName)) ∈ lw_all := lw_g (lw_at lw_m6 175 rfl) rfl
theorem q1527 : (Jvm.Cond.privateMethod ({ cls := "GuestView", name := "hears", desc := "()I" } : Jvm.MethodName)) ∈ lw_tbl := lw_at lw_m6 176 rfl
theorem q1528 : (Jvm.Cond.instanceMethod ({ cls := "GuestView", name := "hears", desc := "()I" } : Jvm.MethodName)) ∈ lw_all := lw_g (lw_at lw_m6 177 rfl) rfl
theorem q1529 : (Jvm.Cond.code ({ cls := "GuestView", name := "hears", desc := "()I" } : Jvm.MethodName) prog_1_method_65_code (7 : Nat) (Option.some Jvm.ClassFile.FieldType.int)) ∈ lw_all := lw_g (lw_at lw_m6 178 rfl) rfl
theorem q1530 : (Jvm.Cond.methodLink "GuestView" (393 : Nat) ({ cls := "GuestView", name := "told", desc := "(II)I" } : Jvm.MethodName)) ∈ lw_all := lw_g (lw_at lw_m6 179 rfl) rfl
theorem q1531 : (Jvm.Cond.privateMethod ({ cls := "GuestView", name := "told", desc := "(II)I" } : Jvm.MethodName)) ∈ lw_tbl := lw_at lw_m6 180 rfl
theorem q1532 : (Jvm.Cond.instanceMethod ({ cls := "GuestView", name := "told", desc := "(II)I" } : Jvm.MethodName)) ∈ lw_all := lw_g (lw_at lw_m6 181 rfl) rfl
theorem q1533 : (Jvm.Cond.code ({ cls := "GuestView", name := "told", desc := "(II)I" } : Jvm.MethodName) prog_1_method_64_code (4 : Nat) (Option.some Jvm.ClassFile.FieldType.int)) ∈ lw_all := lw_g (lw_at lw_m6 182 rfl) rfl
theorem q1538 : (Jvm.Cond.instanceMethod ({ cls := "GuestView", name := "likely", desc := "()I" } : Jvm.MethodName)) ∈ lw_all := lw_g (lw_at lw_m6 187 rfl) rfl
theorem q1539 : (Jvm.Cond.selects "GuestView" ({ cls := "GuestView", name := "likely", desc := "()I" } : Jvm.MethodName) ({ cls := "GuestView", name := "likely", desc := "()I" } : Jvm.MethodName)) ∈ lw_all := lw_g (lw_at lw_m6 188 rfl) rfl
theorem q1540 : (Jvm.Cond.code ({ cls := "GuestView", name := "likely", desc := "()I" } : Jvm.MethodName) prog_1_method_67_code (4 : Nat) (Option.some Jvm.ClassFile.FieldType.int)) ∈ lw_all := lw_g (lw_at lw_m6 189 rfl) rfl
theorem q1545 : (Jvm.Cond.instanceMethod ({ cls := "GuestView", name := "ask", desc := "()I" } : Jvm.MethodName)) ∈ lw_all := lw_g (lw_at lw_m6 194 rfl) rfl
theorem q1546 : (Jvm.Cond.selects "GuestView" ({ cls := "GuestView", name := "ask", desc := "()I" } : Jvm.MethodName) ({ cls := "GuestView", name := "ask", desc := "()I" } : Jvm.MethodName)) ∈ lw_all := lw_g (lw_at lw_m6 195 rfl) rfl
theorem q1547 : (Jvm.Cond.code ({ cls := "GuestView", name := "ask", desc := "()I" } : Jvm.MethodName) prog_1_method_69_code (6 : Nat) (Option.some Jvm.ClassFile.FieldType.int)) ∈ lw_all := lw_g (lw_at lw_m6 196 rfl) rfl
theorem q1548 : (Jvm.Cond.constant "GuestView" (399 : Nat) (1000000 : Int32)) ∈ lw_all := lw_g (lw_at lw_m6 197 rfl) rfl
theorem q1549 : (Jvm.Cond.methodLink "GuestView" (400 : Nat) ({ cls := "GuestView", name := "partBy", desc := "(II)I" } : Jvm.MethodName)) ∈ lw_all := lw_g (lw_at lw_m6 198 rfl) rfl
theorem q1550 : (Jvm.Cond.privateMethod ({ cls := "GuestView", name := "partBy", desc := "(II)I" } : Jvm.MethodName)) ∈ lw_tbl := lw_at lw_m6 199 rfl
theorem q1551 : (Jvm.Cond.instanceMethod ({ cls := "GuestView", name := "partBy", desc := "(II)I" } : Jvm.MethodName)) ∈ lw_all := lw_g (lw_at lw_m6 200 rfl) rfl
theorem q1552 : (Jvm.Cond.code ({ cls := "GuestView", name := "partBy", desc := "(II)I" } : Jvm.MethodName) prog_1_method_68_code (7 : Nat) (Option.some Jvm.ClassFile.FieldType.int)) ∈ lw_all := lw_g (lw_at lw_m6 201 rfl) rfl
theorem q1557 : (Jvm.Cond.instanceMethod ({ cls := "GuestView", name := "pairs", desc := "(I)I" } : Jvm.MethodName)) ∈ lw_all := lw_g (lw_at lw_m6 206 rfl) rfl
theorem q1558 : (Jvm.Cond.selects "GuestView" ({ cls := "GuestView", name := "pairs", desc := "(I)I" } : Jvm.MethodName) ({ cls := "GuestView", name := "pairs", desc := "(I)I" } : Jvm.MethodName)) ∈ lw_all := lw_g (lw_at lw_m6 207 rfl) rfl
theorem q1559 : (Jvm.Cond.code ({ cls := "GuestView", name := "pairs", desc := "(I)I" } : Jvm.MethodName) prog_1_method_76_code (5 : Nat) (Option.some Jvm.ClassFile.FieldType.int)) ∈ lw_all := lw_g (lw_at lw_m6 208 rfl) rfl
theorem q1560 : (Jvm.Cond.methodLink "GuestView" (415 : Nat) ({ cls := "GuestView", name := "allBest", desc := "()V" } : Jvm.MethodName)) ∈ lw_all := lw_g (lw_at lw_m6 209 rfl) rfl
theorem q1561 : (Jvm.Cond.privateMethod ({ cls := "GuestView", name := "allBest", desc := "()V" } : Jvm.MethodName)) ∈ lw_tbl := lw_at lw_m6 210 rfl
theorem q1562 : (Jvm.Cond.instanceMethod ({ cls := "GuestView", name := "allBest", desc := "()V" } : Jvm.MethodName)) ∈ lw_all := lw_g (lw_at lw_m6 211 rfl) rfl
theorem q1563 : (Jvm.Cond.code ({ cls := "GuestView", name := "allBest", desc := "()V" } : Jvm.MethodName) prog_1_method_75_code (4 : Nat) (Option.none : Option Jvm.ClassFile.FieldType)) ∈ lw_all := lw_g (lw_at lw_m6 212 rfl) rfl
theorem q1564 : (Jvm.Cond.methodLink "GuestView" (409 : Nat) ({ cls := "java/lang/Integer", name := "numberOfTrailingZeros", desc := "(I)I" } : Jvm.MethodName)) ∈ lw_all := lw_g (lw_at lw_m6 213 rfl) rfl
theorem q1568 : (Jvm.Cond.methodLink "GuestView" (412 : Nat) ({ cls := "GuestView", name := "sizes", desc := "(II)I" } : Jvm.MethodName)) ∈ lw_all := lw_g (lw_at lw_m6 217 rfl) rfl
theorem q1569 : (Jvm.Cond.privateMethod ({ cls := "GuestView", name := "sizes", desc := "(II)I" } : Jvm.MethodName)) ∈ lw_tbl := lw_at lw_m6 218 rfl
theorem q1570 : (Jvm.Cond.instanceMethod ({ cls := "GuestView", name := "sizes", desc := "(II)I" } : Jvm.MethodName)) ∈ lw_all := lw_g (lw_at lw_m6 219 rfl) rfl
theorem q1571 : (Jvm.Cond.code ({ cls := "GuestView", name := "sizes", desc := "(II)I" } : Jvm.MethodName) prog_1_method_74_code (3 : Nat) (Option.some Jvm.ClassFile.FieldType.int)) ∈ lw_all := lw_g (lw_at lw_m6 220 rfl) rfl
theorem q1576 : (Jvm.Cond.instanceMethod ({ cls := "GuestView", name := "rests", desc := "(I)I" } : Jvm.MethodName)) ∈ lw_all := lw_g (lw_at lw_m6 225 rfl) rfl
theorem q1577 : (Jvm.Cond.selects "GuestView" ({ cls := "GuestView", name := "rests", desc := "(I)I" } : Jvm.MethodName) ({ cls := "GuestView", name := "rests", desc := "(I)I" } : Jvm.MethodName)) ∈ lw_all := lw_g (lw_at lw_m6 226 rfl) rfl
theorem q1578 : (Jvm.Cond.code ({ cls := "GuestView", name := "rests", desc := "(I)I" } : Jvm.MethodName) prog_1_method_79_code (6 : Nat) (Option.some Jvm.ClassFile.FieldType.int)) ∈ lw_all := lw_g (lw_at lw_m6 227 rfl) rfl
theorem q1579 : (Jvm.Cond.methodLink "GuestView" (418 : Nat) ({ cls := "GuestView", name := "guestHas", desc := "(III)I" } : Jvm.MethodName)) ∈ lw_all := lw_g (lw_at lw_m6 228 rfl) rfl
theorem q1580 : (Jvm.Cond.privateMethod ({ cls := "GuestView", name := "guestHas", desc := "(III)I" } : Jvm.MethodName)) ∈ lw_tbl := lw_at lw_m6 229 rfl
theorem q1581 : (Jvm.Cond.instanceMethod ({ cls := "GuestView", name := "guestHas", desc := "(III)I" } : Jvm.MethodName)) ∈ lw_all := lw_g (lw_at lw_m6 230 rfl) rfl
theorem q1582 : (Jvm.Cond.code ({ cls := "GuestView", name := "guestHas", desc := "(III)I" } : Jvm.MethodName) prog_1_method_77_code (4 : Nat) (Option.some Jvm.ClassFile.FieldType.int)) ∈ lw_all := lw_g (lw_at lw_m6 231 rfl) rfl
theorem q1583 : (Jvm.Cond.methodLink "GuestView" (421 : Nat) ({ cls := "GuestView", name := "hostHas", desc := "(III)I" } : Jvm.MethodName)) ∈ lw_all := lw_g (lw_at lw_m6 232 rfl) rfl
theorem q1584 : (Jvm.Cond.privateMethod ({ cls := "GuestView", name := "hostHas", desc := "(III)I" } : Jvm.MethodName)) ∈ lw_tbl := lw_at lw_m6 233 rfl
theorem q1585 : (Jvm.Cond.instanceMethod ({ cls := "GuestView", name := "hostHas", desc := "(III)I" } : Jvm.MethodName)) ∈ lw_all := lw_g (lw_at lw_m6 234 rfl) rfl
theorem q1586 : (Jvm.Cond.code ({ cls := "GuestView", name := "hostHas", desc := "(III)I" } : Jvm.MethodName) prog_1_method_78_code (4 : Nat) (Option.some Jvm.ClassFile.FieldType.int)) ∈ lw_all := lw_g (lw_at lw_m6 235 rfl) rfl
theorem q1591 : (Jvm.Cond.instanceMethod ({ cls := "GuestView", name := "odds", desc := "(II)I" } : Jvm.MethodName)) ∈ lw_all := lw_g (lw_at lw_m7 0 rfl) rfl
theorem q1592 : (Jvm.Cond.selects "GuestView" ({ cls := "GuestView", name := "odds", desc := "(II)I" } : Jvm.MethodName) ({ cls := "GuestView", name := "odds", desc := "(II)I" } : Jvm.MethodName)) ∈ lw_all := lw_g (lw_at lw_m7 1 rfl) rfl
theorem q1593 : (Jvm.Cond.code ({ cls := "GuestView", name := "odds", desc := "(II)I" } : Jvm.MethodName) prog_1_method_80_code (11 : Nat) (Option.some Jvm.ClassFile.FieldType.int)) ∈ lw_all := lw_g (lw_at lw_m7 2 rfl) rfl
theorem q1594 : (Jvm.Cond.constantLong "GuestView" (424 : Nat) (100 : Int64)) ∈ lw_all := lw_g (lw_at lw_m7 3 rfl) rfl
theorem q1595 : (Jvm.Cond.constantLong "GuestView" (426 : Nat) (10000 : Int64)) ∈ lw_all := lw_g (lw_at lw_m7 4 rfl) rfl
theorem q1600 : (Jvm.Cond.instanceMethod ({ cls := "GuestView", name := "most", desc := "(I)I" } : Jvm.MethodName)) ∈ lw_all := lw_g (lw_at lw_m7 9 rfl) rfl
theorem q1601 : (Jvm.Cond.selects "GuestView" ({ cls := "GuestView", name := "most", desc := "(I)I" } : Jvm.MethodName) ({ cls := "GuestView", name := "most", desc := "(I)I" } : Jvm.MethodName)) ∈ lw_all := lw_g (lw_at lw_m7 10 rfl) rfl
theorem q1602 : (Jvm.Cond.code ({ cls := "GuestView", name := "most", desc := "(I)I" } : Jvm.MethodName) prog_1_method_82_code (4 : Nat) (Option.some Jvm.ClassFile.FieldType.int)) ∈ lw_all := lw_g (lw_at lw_m7 11 rfl) rfl
theorem q1603 : (Jvm.Cond.methodLink "GuestView" (428 : Nat) ({ cls := "GuestView", name := "valueOf", desc := "(II)I" } : Jvm.MethodName)) ∈ lw_all := lw_g (lw_at lw_m7 12 rfl) rfl
theorem q1604 : (Jvm.Cond.privateMethod ({ cls := "GuestView", name := "valueOf", desc := "(II)I" } : Jvm.MethodName)) ∈ lw_tbl := lw_at lw_m7 13 rfl
theorem q1605 : (Jvm.Cond.instanceMethod ({ cls := "GuestView", name := "valueOf", desc := "(II)I" } : Jvm.MethodName)) ∈ lw_all := lw_g (lw_at lw_m7 14 rfl) rfl
theorem q1606 : (Jvm.Cond.code ({ cls := "GuestView", name := "valueOf", desc := "(II)I" } : Jvm.MethodName) prog_1_method_81_code (3 : Nat) (Option.some Jvm.ClassFile.FieldType.int)) ∈ lw_all := lw_g (lw_at lw_m7 15 rfl) rfl
theorem q1611 : (Jvm.Cond.instanceMethod ({ cls := "GuestView", name := "ahead", desc := "(IZ)I" } : Jvm.MethodName)) ∈ lw_all := lw_g (lw_at lw_m7 20 rfl) rfl
theorem q1612 : (Jvm.Cond.selects "GuestView" ({ cls := "GuestView", name := "ahead", desc := "(IZ)I" } : Jvm.MethodName) ({ cls := "GuestView", name := "ahead", desc := "(IZ)I" } : Jvm.MethodName)) ∈ lw_all := lw_g (lw_at lw_m7 21 rfl) rfl
theorem q1613 : (Jvm.Cond.code ({ cls := "GuestView", name := "ahead", desc := "(IZ)I" } : Jvm.MethodName) prog_1_method_84_code (5 : Nat) (Option.some Jvm.ClassFile.FieldType.int)) ∈ lw_all := lw_g (lw_at lw_m7 22 rfl) rfl
theorem q1618 : (Jvm.Cond.instanceMethod ({ cls := "GuestView", name := "trial", desc := "(IZ)I" } : Jvm.MethodName)) ∈ lw_all := lw_g (lw_at lw_m7 27 rfl) rfl
theorem q1619 : (Jvm.Cond.selects "GuestView" ({ cls := "GuestView", name := "trial", desc := "(IZ)I" } : Jvm.MethodName) ({ cls := "GuestView", name := "trial", desc := "(IZ)I" } : Jvm.MethodName)) ∈ lw_all := lw_g (lw_at lw_m7 28 rfl) rfl
theorem q1620 : (Jvm.Cond.code ({ cls := "GuestView", name := "trial", desc := "(IZ)I" } : Jvm.MethodName) prog_1_method_85_code (5 : Nat) (Option.some Jvm.ClassFile.FieldType.int)) ∈ lw_all := lw_g (lw_at lw_m7 29 rfl) rfl
theorem q1621 : (Jvm.Cond.methodLink "GuestView" (433 : Nat) ({ cls := "GuestView", name := "alike", desc := "()Z" } : Jvm.MethodName)) ∈ lw_all := lw_g (lw_at lw_m7 30 rfl) rfl
theorem q1626 : (Jvm.Cond.instanceMethod ({ cls := "GuestView", name := "span", desc := "(IZ)I" } : Jvm.MethodName)) ∈ lw_all := lw_g (lw_at lw_m7 35 rfl) rfl
theorem q1627 : (Jvm.Cond.selects "GuestView" ({ cls := "GuestView", name := "span", desc := "(IZ)I" } : Jvm.MethodName) ({ cls := "GuestView", name := "span", desc := "(IZ)I" } : Jvm.MethodName)) ∈ lw_all := lw_g (lw_at lw_m7 36 rfl) rfl
theorem q1628 : (Jvm.Cond.code ({ cls := "GuestView", name := "span", desc := "(IZ)I" } : Jvm.MethodName) prog_1_method_86_code (6 : Nat) (Option.some Jvm.ClassFile.FieldType.int)) ∈ lw_all := lw_g (lw_at lw_m7 37 rfl) rfl
theorem q1633 : (Jvm.Cond.instanceMethod ({ cls := "GuestView", name := "led", desc := "(IZ)I" } : Jvm.MethodName)) ∈ lw_all := lw_g (lw_at lw_m7 42 rfl) rfl
theorem q1634 : (Jvm.Cond.selects "GuestView" ({ cls := "GuestView", name := "led", desc := "(IZ)I" } : Jvm.MethodName) ({ cls := "GuestView", name := "led", desc := "(IZ)I" } : Jvm.MethodName)) ∈ lw_all := lw_g (lw_at lw_m7 43 rfl) rfl
theorem q1635 : (Jvm.Cond.code ({ cls := "GuestView", name := "led", desc := "(IZ)I" } : Jvm.MethodName) prog_1_method_87_code (6 : Nat) (Option.some Jvm.ClassFile.FieldType.int)) ∈ lw_all := lw_g (lw_at lw_m7 44 rfl) rfl
theorem q1636 : (Jvm.Cond.methodLink "GuestView" (442 : Nat) ({ cls := "GuestView$State", name := "isKept", desc := "(I)Z" } : Jvm.MethodName)) ∈ lw_all := lw_g (lw_at lw_m7 45 rfl) rfl
theorem q1640 : (Jvm.Cond.methodLink "GuestView" (445 : Nat) ({ cls := "GuestView$State", name := "row", desc := "(II)I" } : Jvm.MethodName)) ∈ lw_all := lw_g (lw_at lw_m7 49 rfl) rfl
theorem q1649 : (Jvm.Cond.instanceMethod ({ cls := "GuestView", name := "log", desc := "(II)I" } : Jvm.MethodName)) ∈ lw_all := lw_g (lw_at lw_m7 58 rfl) rfl
theorem q1650 : (Jvm.Cond.selects "GuestView" ({ cls := "GuestView", name := "log", desc := "(II)I" } : Jvm.MethodName) ({ cls := "GuestView", name := "log", desc := "(II)I" } : Jvm.MethodName)) ∈ lw_all := lw_g (lw_at lw_m7 59 rfl) rfl
theorem q1651 : (Jvm.Cond.code ({ cls := "GuestView", name := "log", desc := "(II)I" } : Jvm.MethodName) prog_1_method_88_code (3 : Nat) (Option.some Jvm.ClassFile.FieldType.int)) ∈ lw_all := lw_g (lw_at lw_m7 60 rfl) rfl
theorem q2439 : (Jvm.Cond.castable "GuestView" "java/lang/Object") ∈ lw_tbl := lw_at lw_m10 128 rfl
theorem in_X1 : ∀ w ∈ wsX10, w ∈ lw_all := lw_in wsX10 [569, 571, 573, 575, 577, 579, 581, 583, 585, 587, 589, 591, 593, 595, 597, 599, 601] (by decide +kernel) (by decide +kernel)
